section FZ0
def vz_T (XC : String → Nat → State → State → Prop) (st : State) (q : Addr) (t : State) (mc ms : Nat) (free : Addr → Prop) : Prop :=
  ∃ (E : String) (ce : Cell) (L : List Loc), XC E q st t ∧ t.heap[q]? = some ce ∧ ce.vm = .none ∧ st.vm.findClass E = some ce.cls ∧ st.WarmedH t.vm ∧ st.sameButNew ({ t with vm := st.vm } : State) L mc ms ∧ ∀ z ∈ L, free z.base
def vz_Q (Qc : Array Value → State → Outcome → State → Prop) (XC : String → Nat → State → State → Prop) (mc ms mx sx : Nat) (free : Addr → Prop) : Array Value → State → Outcome → State → Prop := fun a st o t =>
  (Qc a st o t ∧ ∃ L, FrameEnd st o t L mc ms ∧ ∀ q ∈ L, free q.base) ∨ ∃ q, o = .threw q ∧ vz_T XC st q t mx sx free
def vz_Met (l : Launch) (y : MethodName) (ws : List Cond) (rm : Room) (Pc : Array Value → State → Prop) (Qc : Array Value → State → Outcome → State → Prop) (XC : String → Nat → State → State → Prop) (mc ms : Nat) (free : Addr → Prop) : Prop :=
  MetFree l y (headSpec ws rm) Pc (fun _ _ _ _ _ => True) (vz_Q Qc XC mc ms rm.cells rm.slots free)
def vz_Post (XC : String → Nat → State → State → Prop) (mc ms : Nat) (free : Addr → Prop) : Pt → Array Value → Addr → Pt → Prop := fun A a q B =>
  ∃ (g : JFrame) (mk : MethodId) (t : State) (L : List Loc) (E : String) (ce : Cell), B.U.heap = t.heap ∧ B.U.vm = t.vm ∧ XC E q (A.U.calling g mk a) t ∧ t.heap[q]? = some ce ∧ ce.vm = .none ∧ A.U.vm.findClass E = some ce.cls ∧ B.locs = A.locs ++ L ∧ (∀ z ∈ L, free z.base) ∧ B.cells = A.cells + mc ∧ B.slots = A.slots + ms
def vz_Back (l : Launch) (R : Room) (p : Program) (e : Env) (below : List Frame) (s : State) (sargs : Array Value) (y : MethodName) (len W9 : Nat)
    (Pre : Pt → Array Value → Prop) (Post : Pt → Array Value → Option Value → Pt → Prop) (PostX : Pt → Array Value → Addr → Pt → Prop) : Prop :=
  ∀ (m : MethodId) (meth : Method) (c : Code) (A : Pt) (g : JFrame) (ig : Instr) (mk : MethodId) (a : Array Value),
    Stand p l e R s m sargs below meth c A.U A.locs A.cells A.slots → g.method = m → g.locals.size = c.maxLocals → decode c.code g.pc = .ok (ig, len) →
    2 * g.monitorRoom + (g.stack.map fun v => v.category).sum ≤ W9 → A.U.methodNamed? y = some mk → Pre A a →
    (∃ (v : Option Value) (B : Pt), Stand p l e R s m sargs below meth c B.U B.locs B.cells B.slots ∧ Post A a v B ∧
      Steps p.tables e below (doInvoke e (A.U.setTop g) [] mk a).1 (B.U.setTop { g with pc := g.pc + len, stack := v.toList ++ g.stack })) ∨
    (∃ (q : Addr) (B : Pt), Stand p l e R s m sargs below meth c B.U B.locs B.cells B.slots ∧ PostX A a q B ∧
      Steps p.tables e below (doInvoke e (A.U.setTop g) [] mk a).1 ((B.U.setTop g).pushFrame (.throwing q)))
section
variable {l : Launch} {R : Room} {p : Program} {e : Env} {below : List Frame} {s : State} {sargs : Array Value} {y : MethodName} {len W9 : Nat}
theorem vz_back {ws : List Cond} {rm : Room} {Pc : Array Value → State → Prop} {Qc : Array Value → State → Outcome → State → Prop} {XC : String → Nat → State → State → Prop} {mc ms mx sx : Nat} {free : Addr → Prop} {bytes : ByteArray} {maxL : Nat} {ret : Option FieldType}
    (hM : vz_Met l y ws rm Pc Qc XC mc ms free) (hblind : FrameBlind Pc) (hrc : rm.cells = mx) (hrs : rm.slots = sx)
    (hframes : rm.frames + 1 ≤ R.frames) (hlocals : W9 + (maxL + 11) + rm.locals ≤ R.locals)
    (hws : ∀ w ∈ ws, ∀ a' U, s.WarmedH U.vm → w.before a' U = true) (hcode : Cond.code y bytes maxL ret ∈ ws) (hinit : ∀ a' U, s.WarmedH U.vm → (Cond.initialized y.cls).before a' U = true) :
    vz_Back l R p e below s sargs y len W9 (PreOf R mx sx Pc) (PostOf Qc mc ms free) (vz_Post XC mx sx free) := by
  intro m meth c A g ig mk a X hg hsize hdg hW hn hp
  have h1 : (headSpec ws rm).pre.before a A.U = true := atoms_intro fun w hw => hws w hw _ _ X.warmed
  have h2 : (Cond.code y bytes maxL ret).before a A.U = true := hws _ hcode _ _ X.warmed
  have h3 : (Cond.initialized y.cls).before a A.U = true := hinit _ _ X.warmed
  have h4 : A.cells + (headSpec ws rm).room.cells ≤ R.cells := by rw [show (headSpec ws rm).room.cells = mx from hrc]; exact hp.1
  have h5 : A.slots + (headSpec ws rm).room.slots ≤ R.slots := by rw [show (headSpec ws rm).room.slots = sx from hrs]; exact hp.2.1
  have hPc : Pc a (A.U.calling g mk a) := hblind _ _ _ _ hp.2.2
  obtain ⟨U, Ls, c0, s0⟩ := A
  dsimp only [Pt.U, Pt.locs, Pt.cells, Pt.slots] at h1 h2 h3 h4 h5 X hn hPc ⊢
  obtain ⟨methY, cY, hmY, hcY, -, hlY, -, -, -, -⟩ := Cond.code_spec hn h2
  obtain ⟨kY, hkY, -⟩ := className_of_methodNamed hn
  have hinitY : kY.init = .initialized := Cond.initialized_spec (findClass_of_methodNamed hn) hkY h3
  have h : At U g.method c below := by rw [hg]; exact X.here
  have hlocals9 : W9 + (maxL + 11) + (headSpec ws rm).room.locals ≤ R.locals := hlocals
  have happ : (headSpec ws rm).appliesLoose y e.platform (U.calling g mk a) = true :=
    Spec.appliesLoose_calling (g := g) h hdg hn hkY hinitY
      (X.room_calling (g := g) (R' := (headSpec ws rm).room) hsize hmY hcY hframes (by rw [hlY]; omega) h4 h5) h1
  obtain ⟨mid, hmid⟩ := h.above
  have hfr : (U.setTop g).frames = (.java g :: mid) ++ below := by rw [State.frames_setTop' g h.top, hmid]; rfl
  obtain ⟨o, s₂, hsteps, -, hend, hq⟩ := Steps.callFree hM p X.admits X.cas X.clock (acts := []) hfr happ hPc trivial
  have hq' : vz_Q Qc XC mc ms rm.cells rm.slots free a (U.calling g mk a) o s₂ := hq
  rw [State.frames_setTop' g h.top] at hend
  obtain ⟨g₀, hg0⟩ := Option.isSome_iff_exists.mp h.top
  obtain ⟨r, hr⟩ := State.topJava?_eq_some.mp hg0
  have hr' : (({ U with heap := s₂.heap, slotsUsed := s₂.slotsUsed } : State).setVm s₂.vm).frames = .java g₀ :: r := hr
  rcases hq' with ⟨hqc, L, hfe, hL⟩ | ⟨q, rfl, E, ce, L, hx, hce, hcv, hcl, hW₂, hsm, hL⟩
  · obtain ⟨⟨v, rfl⟩, hW₂, e2, q2, q3, q4, q5, q6⟩ := id hfe
    have e3 : s₂ = ({ (U.calling g mk a).setFrames s₂.frames with heap := s₂.heap, slotsUsed := s₂.slotsUsed } : State).setVm s₂.vm := by
      have : s₂ = ({ s₂ with vm := (U.calling g mk a).vm } : State).setVm s₂.vm := rfl
      rw [e2] at this
      exact this
    obtain ⟨c₂, i₂, len₂, hc₂, hd₂, hf₂⟩ := hend
    have hW' : U.WarmedH s₂.vm := hW₂
    have hcc : c₂ = c := by
      have h1 : s₂.code? g.method = U.code? g.method := by
        rw [State.code?_eq, State.code?_eq, hW'.alike.method?]
      exact Option.some.inj (hc₂.symm.trans (h1.trans h.code))
    subst hcc
    have hlen : len₂ = len := by rw [hdg] at hd₂; cases hd₂; rfl
    subst hlen
    have hs₂ : s₂ = (({ U with heap := s₂.heap, slotsUsed := s₂.slotsUsed } : State).setVm s₂.vm).setTop { g with pc := g.pc + len₂, stack := v.toList ++ g.stack } := by
      refine e3.trans ?_
      rw [hf₂, State.calling_eq h.top, State.setFrames_setFrames, State.setTop_of_frames _ hr', hr]
      rfl
    have hsame : U.sameButNew ({ U with heap := s₂.heap, slotsUsed := s₂.slotsUsed } : State) L mc ms := by
      refine ⟨?_, q2, q3, q4, q5, q6⟩
      obtain ⟨t, ht, -⟩ := State.frames_cons hr
      show ({ U with heap := s₂.heap, slotsUsed := s₂.slotsUsed } : State) = { U.setFrames U.frames with heap := s₂.heap, slotsUsed := s₂.slotsUsed }
      rw [State.setFrames_self ht]
    subst hg
    refine Or.inl ⟨v, ⟨(({ U with heap := s₂.heap, slotsUsed := s₂.slotsUsed } : State).setVm s₂.vm), Ls ++ L, c0 + mc, s0 + ms⟩,
      ⟨X.admits, X.cas, X.clock, X.frames, X.room, X.hears, X.method, X.code, (X.here.setHeapUsed s₂.heap s₂.slotsUsed).setVm hW'.alike, X.tail, State.WarmedH.trans X.warmed hW', X.limits, X.bytes, X.same.trans (hsame.setVm s.vm)⟩,
      ⟨g, mk, s₂, L, rfl, rfl, hqc, rfl, hL, rfl, rfl⟩, ?_⟩
    show Steps p.tables e below _ ((({ U with heap := s₂.heap, slotsUsed := s₂.slotsUsed } : State).setVm s₂.vm).setTop { g with pc := g.pc + len₂, stack := v.toList ++ g.stack })
    rw [← hs₂]
    exact hsteps
  · rw [hrc, hrs] at hsm
    obtain ⟨e2, q2, q3, q4, q5, q6⟩ := id hsm
    have e3 : s₂ = ({ (U.calling g mk a).setFrames s₂.frames with heap := s₂.heap, slotsUsed := s₂.slotsUsed } : State).setVm s₂.vm := by
      have : s₂ = ({ s₂ with vm := (U.calling g mk a).vm } : State).setVm s₂.vm := rfl
      rw [e2] at this
      exact this
    have hf₂ : s₂.frames = .throwing q :: .java g :: U.frames.tail := hend
    have hW' : U.WarmedH s₂.vm := hW₂
    have hs₂ : s₂ = ((({ U with heap := s₂.heap, slotsUsed := s₂.slotsUsed } : State).setVm s₂.vm).setTop g).pushFrame (.throwing q) := by
      refine e3.trans ?_
      rw [hf₂, State.calling_eq h.top, State.setFrames_setFrames, State.pushFrame, State.frames_setTop _ hr', State.setTop_of_frames _ hr', State.setFrames_setFrames, hr]
      rfl
    have hsame : U.sameButNew ({ U with heap := s₂.heap, slotsUsed := s₂.slotsUsed } : State) L mx sx := by
      refine ⟨?_, q2, q3, q4, q5, q6⟩
      obtain ⟨t, ht, -⟩ := State.frames_cons hr
      show ({ U with heap := s₂.heap, slotsUsed := s₂.slotsUsed } : State) = { U.setFrames U.frames with heap := s₂.heap, slotsUsed := s₂.slotsUsed }
      rw [State.setFrames_self ht]
    subst hg
    refine Or.inr ⟨q, ⟨(({ U with heap := s₂.heap, slotsUsed := s₂.slotsUsed } : State).setVm s₂.vm), Ls ++ L, c0 + mx, s0 + sx⟩,
      ⟨X.admits, X.cas, X.clock, X.frames, X.room, X.hears, X.method, X.code, (X.here.setHeapUsed s₂.heap s₂.slotsUsed).setVm hW'.alike, X.tail, State.WarmedH.trans X.warmed hW', X.limits, X.bytes, X.same.trans (hsame.setVm s.vm)⟩,
      ⟨g, mk, s₂, L, E, ce, rfl, rfl, hx, hce, hcv, hcl, rfl, hL, rfl, rfl⟩, ?_⟩
    show Steps p.tables e below _ (((({ U with heap := s₂.heap, slotsUsed := s₂.slotsUsed } : State).setVm s₂.vm).setTop g).pushFrame (.throwing q))
    rw [← hs₂]
    exact hsteps
end
section
variable {p : Program} {l : Launch} {e : Env} {R : Room} {s : State} {m : MethodId} {args : Array Value} {below : List Frame} {meth : Method} {c : Code} {T : State} {locs : List Loc} {cells slots : Nat}
theorem vz_callV (X : Stand p l e R s m args below meth c T locs cells slots) (hexec : p.tables.exec = Jvm.exec) {own C : String} {index : Nat} {y : MethodName} {bytes : ByteArray} {maxL : Nat} {ret : Option FieldType}
    (hown : s.vm.findClass own = some m.cls) (hlink : (Cond.methodLink own index y).before args s = true) (hinst : (Cond.instanceMethod y).before args s = true) (hsel : (Cond.selects C y y).before args s = true)
    (hcode : (Cond.code y bytes maxL ret).before args s = true) (hy : y.cls ≠ "java/lang/invoke/MethodHandle" ∧ y.cls ≠ "java/lang/invoke/VarHandle")
    {W9 : Nat} {Pre : Pt → Array Value → Prop} {Post : Pt → Array Value → Option Value → Pt → Prop} {PostX : Pt → Array Value → Addr → Pt → Prop} (hK : vz_Back l R p e below s args y 3 W9 Pre Post PostX)
    {b : Addr} {cellB : Cell} (hcell : T.heap[b]? = some cellB) (hobj : cellB.vm.isStatics = false) (hcls : s.vm.findClass C = some cellB.cls)
    {g : JFrame} (hg : g.method = m) (hsize : g.locals.size = c.maxLocals) {argsL rest : List Value} (hlen : ∀ sig, parseMethodDescriptor y.desc = some sig → argsL.length = sig.parameters.length)
    (hstack : g.stack = argsL.reverse ++ .ref b :: rest) (hW : 2 * g.monitorRoom + (rest.map fun v => v.category).sum ≤ W9) (hdg : decode c.code g.pc = .ok (.invokevirtual index, 3))
    (hpre : ∀ vm₁, s.WarmedH vm₁ → Pre ⟨T.setVm vm₁, locs, cells, slots⟩ (Value.ref b :: argsL).toArray) :
    (∃ (v : Option Value) (vm₁ : Vm) (B : Pt), s.WarmedH vm₁ ∧ Stand p l e R s m args below meth c B.U B.locs B.cells B.slots ∧ Post ⟨T.setVm vm₁, locs, cells, slots⟩ (Value.ref b :: argsL).toArray v B ∧
      ∀ target, Steps p.tables e below (B.U.setTop { g with pc := g.pc + 3, stack := v.toList ++ rest }) target → Steps p.tables e below (T.setTop g) target) ∨
    (∃ (q : Addr) (vm₁ : Vm) (B : Pt), s.WarmedH vm₁ ∧ Stand p l e R s m args below meth c B.U B.locs B.cells B.slots ∧ PostX ⟨T.setVm vm₁, locs, cells, slots⟩ (Value.ref b :: argsL).toArray q B ∧
      Steps p.tables e below (T.setTop g) ((B.U.setTop { g with stack := rest }).pushFrame (.throwing q))) := by
  obtain ⟨mk, methM, hnamed, hmethM, hstM, habM⟩ := Cond.instanceMethod_spec hinst
  obtain ⟨methM', cM, hmethM', -, -, -, -, -, -, hsigM⟩ := Cond.code_spec hnamed hcode
  cases hmethM.symm.trans hmethM'
  obtain ⟨c2, r2, m2, q1, q2, q3, q4, kP, hkP, hkPi⟩ := Cond.selects_spec hsel
  cases hcls.symm.trans q1
  cases (State.methodFound?_of_named hnamed hy).symm.trans q2
  cases hnamed.symm.trans q3
  have hselP : selectMethod e.platform s.vm cellB.cls mk = .method mk := by rw [Launch.admits_selectMethod X.admits]; exact q4
  obtain ⟨vm₁, X₁, hstep₁⟩ := X.invokevirtual hexec hown hlink hnamed hmethM hstM hkP hkPi hy (a := b) (cell := cellB) hcell
    (fun z h => by rw [h] at hobj; cases hobj) hselP hmethM habM hkP hkPi (g := g) hg (argsL := argsL) (rest := rest) (hlen _ hsigM) hstack hdg
  rcases hK m meth c ⟨T.setVm vm₁, locs, cells, slots⟩ { g with stack := rest } (.invokevirtual index) mk (Value.ref b :: argsL).toArray X₁ hg hsize hdg hW (X₁.named hnamed) (hpre vm₁ X₁.warmed) with ⟨v, B, X', hpost, hsteps⟩ | ⟨q, B, X', hpost, hsteps⟩
  · exact Or.inl ⟨v, vm₁, B, X₁.warmed, X', hpost, fun target h => hstep₁ _ fun acts => by rw [doInvoke_state]; exact hsteps.trans h⟩
  · exact Or.inr ⟨q, vm₁, B, X₁.warmed, X', hpost, hstep₁ _ fun acts => by rw [doInvoke_state]; exact hsteps⟩
theorem vz_callS (X : Stand p l e R s m args below meth c T locs cells slots) (hexec : p.tables.exec = Jvm.exec) {own : String} {index : Nat} {y : MethodName} {bytes : ByteArray} {maxL : Nat} {ret : Option FieldType}
    (hown : s.vm.findClass own = some m.cls) (hlink : (Cond.methodLink own index y).before args s = true) (hstat : (Cond.static y).before args s = true) (hinit : (Cond.initialized y.cls).before args s = true)
    (hcode : (Cond.code y bytes maxL ret).before args s = true) (hy : y.cls ≠ "java/lang/invoke/MethodHandle" ∧ y.cls ≠ "java/lang/invoke/VarHandle")
    {W9 : Nat} {Pre : Pt → Array Value → Prop} {Post : Pt → Array Value → Option Value → Pt → Prop} {PostX : Pt → Array Value → Addr → Pt → Prop} (hK : vz_Back l R p e below s args y 3 W9 Pre Post PostX)
    {g : JFrame} (hg : g.method = m) (hsize : g.locals.size = c.maxLocals) {argsL rest : List Value} (hlen : ∀ sig, parseMethodDescriptor y.desc = some sig → argsL.length = sig.parameters.length)
    (hstack : g.stack = argsL.reverse ++ rest) (hW : 2 * g.monitorRoom + (rest.map fun v => v.category).sum ≤ W9) (hdg : decode c.code g.pc = .ok (.invokestatic index, 3))
    (hpre : ∀ vm₁, s.WarmedH vm₁ → Pre ⟨T.setVm vm₁, locs, cells, slots⟩ argsL.toArray) :
    (∃ (v : Option Value) (vm₁ : Vm) (B : Pt), s.WarmedH vm₁ ∧ Stand p l e R s m args below meth c B.U B.locs B.cells B.slots ∧ Post ⟨T.setVm vm₁, locs, cells, slots⟩ argsL.toArray v B ∧
      ∀ target, Steps p.tables e below (B.U.setTop { g with pc := g.pc + 3, stack := v.toList ++ rest }) target → Steps p.tables e below (T.setTop g) target) ∨
    (∃ (q : Addr) (vm₁ : Vm) (B : Pt), s.WarmedH vm₁ ∧ Stand p l e R s m args below meth c B.U B.locs B.cells B.slots ∧ PostX ⟨T.setVm vm₁, locs, cells, slots⟩ argsL.toArray q B ∧
      Steps p.tables e below (T.setTop g) ((B.U.setTop { g with stack := rest }).pushFrame (.throwing q))) := by
  obtain ⟨mk, hnamed⟩ := Cond.code_named hcode
  obtain ⟨methM, cM, hmethM, -, -, -, -, -, -, hsigM⟩ := Cond.code_spec hnamed hcode
  have hstatic : methM.isStatic = true := Cond.static_spec hnamed hmethM hstat
  obtain ⟨kP, hkP, -⟩ := className_of_methodNamed hnamed
  have hinitP : kP.init = .initialized := Cond.initialized_spec (findClass_of_methodNamed hnamed) hkP hinit
  obtain ⟨vm₁, X₁, hstep₁⟩ := X.invokestatic hexec hown hlink hnamed hmethM hstatic hkP hinitP hy (g := g) hg (argsL := argsL) (rest := rest) (hlen _ hsigM) hstack hdg
  rcases hK m meth c ⟨T.setVm vm₁, locs, cells, slots⟩ { g with stack := rest } (.invokestatic index) mk argsL.toArray X₁ hg hsize hdg hW (X₁.named hnamed) (hpre vm₁ X₁.warmed) with ⟨v, B, X', hpost, hsteps⟩ | ⟨q, B, X', hpost, hsteps⟩
  · exact Or.inl ⟨v, vm₁, B, X₁.warmed, X', hpost, fun target h => hstep₁ _ fun acts => by rw [doInvoke_state]; exact hsteps.trans h⟩
  · exact Or.inr ⟨q, vm₁, B, X₁.warmed, X', hpost, hstep₁ _ fun acts => by rw [doInvoke_state]; exact hsteps⟩
end
section
variable {p : Program} {l : Launch} {e : Env} {R : Room} {s : State} {m : MethodId} {args : Array Value} {below : List Frame} {meth : Method} {c : Code} {T : State} {locs : List Loc} {cells slots : Nat}
theorem vz_callI (X : Stand p l e R s m args below meth c T locs cells slots) (hexec : p.tables.exec = Jvm.exec) {own : String} {index : Nat} {y : MethodName} {bytes : ByteArray} {maxL : Nat}
    (hown : s.vm.findClass own = some m.cls) (hy1 : y.name = "<init>") (hlink : (Cond.methodLink own index y).before args s = true) (hinst : (Cond.instanceMethod y).before args s = true)
    (hcode : (Cond.code y bytes maxL none).before args s = true) (hy : y.cls ≠ "java/lang/invoke/MethodHandle" ∧ y.cls ≠ "java/lang/invoke/VarHandle")
    {W9 : Nat} {Pre : Pt → Array Value → Prop} {Post : Pt → Array Value → Option Value → Pt → Prop} {PostX : Pt → Array Value → Addr → Pt → Prop} (hK : vz_Back l R p e below s args y 3 W9 Pre Post PostX)
    {g : JFrame} (hg : g.method = m) (hsize : g.locals.size = c.maxLocals) {a : Addr} {argsL rest : List Value} (hlen : ∀ sig, parseMethodDescriptor y.desc = some sig → argsL.length = sig.parameters.length)
    (hstack : g.stack = argsL.reverse ++ .ref a :: rest) (hW : 2 * g.monitorRoom + (rest.map fun v => v.category).sum ≤ W9) (hdg : decode c.code g.pc = .ok (.invokespecial index, 3))
    (hpre : ∀ vm₁, s.WarmedH vm₁ → Pre ⟨T.setVm vm₁, locs, cells, slots⟩ (Value.ref a :: argsL).toArray) :
    (∃ (v : Option Value) (vm₁ : Vm) (B : Pt), s.WarmedH vm₁ ∧ Stand p l e R s m args below meth c B.U B.locs B.cells B.slots ∧ Post ⟨T.setVm vm₁, locs, cells, slots⟩ (Value.ref a :: argsL).toArray v B ∧
      ∀ target, Steps p.tables e below (B.U.setTop { g with pc := g.pc + 3, stack := v.toList ++ rest }) target → Steps p.tables e below (T.setTop g) target) ∨
    (∃ (q : Addr) (vm₁ : Vm) (B : Pt), s.WarmedH vm₁ ∧ Stand p l e R s m args below meth c B.U B.locs B.cells B.slots ∧ PostX ⟨T.setVm vm₁, locs, cells, slots⟩ (Value.ref a :: argsL).toArray q B ∧
      Steps p.tables e below (T.setTop g) ((B.U.setTop { g with stack := rest }).pushFrame (.throwing q))) := by
  subst hg
  have hpl : e.platform.magicAccessors = ({} : Platform).magicAccessors := by rw [X.admits.platform]
  obtain ⟨mk, methM, cM, kP, vm₁, hnamed, hmethM, hcodeM, -, hlocalsM, -, hkP, -, hW₁, hstep₁⟩ := Steps.initColdArgs (e := e) X.here hexec X.warmed hpl hown hy1 hy hlink hinst hcode (f := g) rfl hlen hstack hdg
  have X₁ := X.noted hW₁
  rcases hK g.method meth c ⟨T.setVm vm₁, locs, cells, slots⟩ { g with stack := rest } (.invokespecial index) mk (Value.ref a :: argsL).toArray X₁ rfl hsize hdg hW (X₁.named hnamed) (hpre vm₁ X₁.warmed) with ⟨v, B, X', hpost, hsteps⟩ | ⟨q, B, X', hpost, hsteps⟩
  · exact Or.inl ⟨v, vm₁, B, X₁.warmed, X', hpost, fun target h => hstep₁ _ fun acts => by rw [doInvoke_state]; exact hsteps.trans h⟩
  · exact Or.inr ⟨q, vm₁, B, X₁.warmed, X', hpost, hstep₁ _ fun acts => by rw [doInvoke_state]; exact hsteps⟩
end
def vz_Run (p : Program) (l : Launch) (e : Env) (R : Room) (s : State) (m : MethodId) (args : Array Value) (below : List Frame) (meth : Method) (c : Code) (H : Heap) (locs : List Loc) (cells slots mc ms mx sx : Nat) (g : JFrame) (rest : List Value) (Qa : State → Outcome → State → Prop) (XC : String → Nat → State → State → Prop) (free : Addr → Prop) : Prop :=
  ∀ T : State, T.heap = H → Stand p l e R s m args below meth c T locs cells slots →
    (∃ (v : Option Value) (st₀ t T' : State) (L : List Loc), st₀.heap = H ∧ Stand p l e R s m args below meth c T' (locs ++ L) (cells + mc) (slots + ms) ∧ (∀ q ∈ L, free q.base) ∧ T'.heap = t.heap ∧ T'.vm = t.vm ∧ Qa st₀ (.returned v) t ∧
      Goes p e below T g T' { g with pc := g.pc + 3, stack := v.toList ++ rest }) ∨
    (∃ (q : Addr) (st₀ t T' : State) (L : List Loc) (E : String) (ce : Cell), st₀.heap = H ∧ Stand p l e R s m args below meth c T' (locs ++ L) (cells + mx) (slots + sx) ∧ (∀ z ∈ L, free z.base) ∧ T'.heap = t.heap ∧ T'.vm = t.vm ∧ XC E q st₀ t ∧ t.heap[q]? = some ce ∧ ce.vm = .none ∧ s.vm.findClass E = some ce.cls ∧
      Steps p.tables e below (T.setTop g) ((T'.setTop { g with stack := rest }).pushFrame (.throwing q)))
section
variable {p : Program} {l : Launch} {e : Env} {R : Room} {s : State} {m : MethodId} {args : Array Value} {below : List Frame} {meth : Method} {c : Code} {H : Heap} {locs : List Loc} {cells slots : Nat}
variable {y : MethodName} {bytes cc : ByteArray} {maxL nL mc ms mx sx n index : Nat} {ret : Option FieldType} {ws : List Cond} {rm : Room} {Pc : Array Value → State → Prop} {Qc : Array Value → State → Outcome → State → Prop} {XC : String → Nat → State → State → Prop} {free : Addr → Prop} {Ts : List Cond} {own C : String} {b : Addr} {As rest : List Value} {g : JFrame}
theorem vz_callBack (cb : CallB R s args own index y bytes maxL ret ws rm mx sx n) (hM : vz_Met l y ws rm Pc Qc XC mc ms free) (hbl : FrameBlind Pc) : vz_Back l R p e below s args y 3 8 (PreOf R mx sx Pc) (PostOf Qc mc ms free) (vz_Post XC mx sx free) := by
  obtain ⟨hrc, hrs, hfr, hlo, hws, hcw, -, hini, -⟩ := cb
  exact vz_back (bytes := bytes) (maxL := maxL) (ret := ret) hM hbl hrc hrs hfr hlo hws hcw (fun a' U hW => word_at hW (Or.inl (by first | rfl | simp [Cond.onTables, Cond.keeps, Cond.steady])) hini)
theorem vz_runV (S : CallFix p m c cc nL s args Ts own) (hM : vz_Met l y ws rm Pc Qc XC mc ms free) (cw : CallW R s args own C index y bytes maxL ret ws rm mx sx n) (hp : PreV s H C b Pc As)
    (hg : g.method = m) (hn : As.length = n) (hsize : g.locals.size = nL) (hstack : g.stack = As.reverse ++ .ref b :: rest) (hW : 2 * g.monitorRoom + (rest.map fun v => v.category).sum ≤ 8) (hdg : decode cc g.pc = .ok (.invokevirtual index, 3)) (hf : cells + mx ≤ R.cells ∧ slots + sx ≤ R.slots) :
    vz_Run p l e R s m args below meth c H locs cells slots mc ms mx sx g rest (Qc (Value.ref b :: As).toArray) XC free := by
  have hK : vz_Back l R p e below s args y 3 8 (PreOf R mx sx Pc) (PostOf Qc mc ms free) (vz_Post XC mx sx free) := vz_callBack cw.1 hM hp.1
  obtain ⟨⟨-, -, -, -, -, -, hcode, -, hy, hlen, hl⟩, hin, hse⟩ := cw
  obtain ⟨hx, hb, hml, ho, -⟩ := S
  obtain ⟨-, ⟨cellB, hcB, hoB, hclB⟩, hPc⟩ := hp
  intro T hT X
  rcases vz_callV X hx (C := C) (bytes := bytes) (maxL := maxL) (ret := ret) ho hl hin hse hcode hy hK (by rw [hT]; exact hcB) hoB hclB hg (hsize.trans hml.symm) (argsL := As) (rest := rest) (fun sig h => hn.trans (hlen sig h)) hstack hW (by rw [hb]; exact hdg)
    (fun vm₁ hW₁ => ⟨hf.1, hf.2, hPc (T.setVm vm₁) hT hW₁⟩) with ⟨v, vm₁, ⟨U', l2, c2, s2⟩, hW₁, X', ⟨g', mk, t, L, e1, e2, hq, h1, hL, h2, h3⟩, st⟩ | ⟨q, vm₁, ⟨U', l2, c2, s2⟩, hW₁, X', ⟨g', mk, t, L, E, ce, e1, e2, hq, hce, hcv, hcl, h1, hL, h2, h3⟩, st⟩
  · dsimp only [Pt.U, Pt.locs, Pt.cells, Pt.slots] at X' e1 e2 h1 h2 h3 st
    subst h1; subst h2; subst h3
    exact Or.inl ⟨v, (T.setVm vm₁).calling g' mk (Value.ref b :: As).toArray, t, U', L, hT, X', hL, e1, e2, hq, st⟩
  · dsimp only [Pt.U, Pt.locs, Pt.cells, Pt.slots] at X' e1 e2 h1 h2 h3 st hcl
    subst h1; subst h2; subst h3
    exact Or.inr ⟨q, (T.setVm vm₁).calling g' mk (Value.ref b :: As).toArray, t, U', L, E, ce, hT, X', hL, e1, e2, hq, hce, hcv, vx_cls hW₁ hcl, st⟩
theorem vz_runS (S : CallFix p m c cc nL s args Ts own) (hM : vz_Met l y ws rm Pc Qc XC mc ms free) (cw : CallB R s args own index y bytes maxL ret ws rm mx sx n ∧ (Cond.static y).before args s = true) (hp : PreS s H Pc As)
    (hg : g.method = m) (hn : As.length = n) (hsize : g.locals.size = nL) (hstack : g.stack = As.reverse ++ rest) (hW : 2 * g.monitorRoom + (rest.map fun v => v.category).sum ≤ 8) (hdg : decode cc g.pc = .ok (.invokestatic index, 3)) (hf : cells + mx ≤ R.cells ∧ slots + sx ≤ R.slots) :
    vz_Run p l e R s m args below meth c H locs cells slots mc ms mx sx g rest (Qc As.toArray) XC free := by
  have hK : vz_Back l R p e below s args y 3 8 (PreOf R mx sx Pc) (PostOf Qc mc ms free) (vz_Post XC mx sx free) := vz_callBack cw.1 hM hp.1
  obtain ⟨⟨-, -, -, -, -, -, hcode, hini, hy, hlen, hl⟩, hstt⟩ := cw
  obtain ⟨hx, hb, hml, ho, -⟩ := S
  intro T hT X
  rcases vz_callS X hx (bytes := bytes) (maxL := maxL) (ret := ret) ho hl hstt hini hcode hy hK hg (hsize.trans hml.symm) (argsL := As) (rest := rest) (fun sig h => hn.trans (hlen sig h)) hstack hW (by rw [hb]; exact hdg)
    (fun vm₁ hW₁ => ⟨hf.1, hf.2, hp.2 (T.setVm vm₁) hT hW₁⟩) with ⟨v, vm₁, ⟨U', l2, c2, s2⟩, hW₁, X', ⟨g', mk, t, L, e1, e2, hq, h1, hL, h2, h3⟩, st⟩ | ⟨q, vm₁, ⟨U', l2, c2, s2⟩, hW₁, X', ⟨g', mk, t, L, E, ce, e1, e2, hq, hce, hcv, hcl, h1, hL, h2, h3⟩, st⟩
  · dsimp only [Pt.U, Pt.locs, Pt.cells, Pt.slots] at X' e1 e2 h1 h2 h3 st
    subst h1; subst h2; subst h3
    exact Or.inl ⟨v, (T.setVm vm₁).calling g' mk As.toArray, t, U', L, hT, X', hL, e1, e2, hq, st⟩
  · dsimp only [Pt.U, Pt.locs, Pt.cells, Pt.slots] at X' e1 e2 h1 h2 h3 st hcl
    subst h1; subst h2; subst h3
    exact Or.inr ⟨q, (T.setVm vm₁).calling g' mk As.toArray, t, U', L, E, ce, hT, X', hL, e1, e2, hq, hce, hcv, vx_cls hW₁ hcl, st⟩
theorem vz_runI (S : CallFix p m c cc nL s args Ts own) (hM : vz_Met l y ws rm Pc Qc XC mc ms free) (cw : CallB R s args own index y bytes maxL none ws rm mx sx n ∧ y.name = "<init>" ∧ (Cond.instanceMethod y).before args s = true) (hp : PreS s H Pc (.ref b :: As))
    (hg : g.method = m) (hn : As.length = n) (hsize : g.locals.size = nL) (hstack : g.stack = As.reverse ++ .ref b :: rest) (hW : 2 * g.monitorRoom + (rest.map fun v => v.category).sum ≤ 8) (hdg : decode cc g.pc = .ok (.invokespecial index, 3)) (hf : cells + mx ≤ R.cells ∧ slots + sx ≤ R.slots) :
    vz_Run p l e R s m args below meth c H locs cells slots mc ms mx sx g rest (Qc (Value.ref b :: As).toArray) XC free := by
  have hK : vz_Back l R p e below s args y 3 8 (PreOf R mx sx Pc) (PostOf Qc mc ms free) (vz_Post XC mx sx free) := vz_callBack cw.1 hM hp.1
  obtain ⟨⟨-, -, -, -, -, -, hcode, -, hy, hlen, hl⟩, hy1, hin⟩ := cw
  obtain ⟨hx, hb, hml, ho, -⟩ := S
  have hPc := hp.2
  intro T hT X
  rcases vz_callI X hx (bytes := bytes) (maxL := maxL) ho hy1 hl hin hcode hy hK hg (hsize.trans hml.symm) (a := b) (argsL := As) (rest := rest) (fun sig h => hn.trans (hlen sig h)) hstack hW (by rw [hb]; exact hdg)
    (fun vm₁ hW₁ => ⟨hf.1, hf.2, hPc (T.setVm vm₁) hT hW₁⟩) with ⟨v, vm₁, ⟨U', l2, c2, s2⟩, hW₁, X', ⟨g', mk, t, L, e1, e2, hq, h1, hL, h2, h3⟩, st⟩ | ⟨q, vm₁, ⟨U', l2, c2, s2⟩, hW₁, X', ⟨g', mk, t, L, E, ce, e1, e2, hq, hce, hcv, hcl, h1, hL, h2, h3⟩, st⟩
  · dsimp only [Pt.U, Pt.locs, Pt.cells, Pt.slots] at X' e1 e2 h1 h2 h3 st
    subst h1; subst h2; subst h3
    exact Or.inl ⟨v, (T.setVm vm₁).calling g' mk (Value.ref b :: As).toArray, t, U', L, hT, X', hL, e1, e2, hq, st⟩
  · dsimp only [Pt.U, Pt.locs, Pt.cells, Pt.slots] at X' e1 e2 h1 h2 h3 st hcl
    subst h1; subst h2; subst h3
    exact Or.inr ⟨q, (T.setVm vm₁).calling g' mk (Value.ref b :: As).toArray, t, U', L, E, ce, hT, X', hL, e1, e2, hq, hce, hcv, vx_cls hW₁ hcl, st⟩
end
section
variable {p : Program} {l : Launch} {e : Env} {R : Room} {s : State} {m : MethodId} {args : Array Value} {below : List Frame} {meth : Method} {c : Code} {H : Heap} {locs : List Loc} {cells slots : Nat}
theorem vz_callVU {T : State} {locs : List Loc} {cells slots : Nat} (X : Stand p l e R s m args below meth c T locs cells slots) (hexec : p.tables.exec = Jvm.exec) {own C owner : String} {index : Nat} {x y : MethodName} {bytes : ByteArray} {maxL : Nat} {ret : Option FieldType}
    (hown : s.vm.findClass own = some m.cls) (hlink : (Cond.methodLink own index x).before args s = true) (hsame : (Cond.sameMethod x.cls owner x.name x.desc).before args s = true)
    (hd0 : va_Decl s ⟨owner, x.name, x.desc⟩) (howner : owner ≠ "java/lang/invoke/MethodHandle" ∧ owner ≠ "java/lang/invoke/VarHandle")
    (hsel : (Cond.selects C x y).before args s = true) (hinst : (Cond.instanceMethod y).before args s = true) (hcode : (Cond.code y bytes maxL ret).before args s = true)
    {W : Nat} {Pre : Pt → Array Value → Prop} {Post : Pt → Array Value → Option Value → Pt → Prop} {PostX : Pt → Array Value → Addr → Pt → Prop} (hK : vz_Back l R p e below s args y 3 W Pre Post PostX)
    {b : Addr} {cellB : Cell} (hcell : T.heap[b]? = some cellB) (hobj : cellB.vm.isStatics = false) (hcls : s.vm.findClass C = some cellB.cls)
    {g : JFrame} (hg : g.method = m) (hsize : g.locals.size = c.maxLocals) {argsL rest : List Value} (hlen : ∀ sig, parseMethodDescriptor x.desc = some sig → argsL.length = sig.parameters.length)
    (hstack : g.stack = argsL.reverse ++ .ref b :: rest) (hW : 2 * g.monitorRoom + (rest.map fun v => v.category).sum ≤ W) (hdg : decode c.code g.pc = .ok (.invokevirtual index, 3))
    (hpre : ∀ vm₁, s.WarmedH vm₁ → Pre ⟨T.setVm vm₁, locs, cells, slots⟩ (Value.ref b :: argsL).toArray) :
    (∃ (v : Option Value) (vm₁ : Vm) (B : Pt), s.WarmedH vm₁ ∧ Stand p l e R s m args below meth c B.U B.locs B.cells B.slots ∧ Post ⟨T.setVm vm₁, locs, cells, slots⟩ (Value.ref b :: argsL).toArray v B ∧
      ∀ target, Steps p.tables e below (B.U.setTop { g with pc := g.pc + 3, stack := v.toList ++ rest }) target → Steps p.tables e below (T.setTop g) target) ∨
    (∃ (q : Addr) (vm₁ : Vm) (B : Pt), s.WarmedH vm₁ ∧ Stand p l e R s m args below meth c B.U B.locs B.cells B.slots ∧ PostX ⟨T.setVm vm₁, locs, cells, slots⟩ (Value.ref b :: argsL).toArray q B ∧
      Steps p.tables e below (T.setTop g) ((B.U.setTop { g with stack := rest }).pushFrame (.throwing q))) := by
  obtain ⟨r0, r, hn, hrm, hstR, hsigR⟩ := hd0
  obtain ⟨cn, ck, r1, hcn, hck, hni, hf, hn1⟩ := Cond.sameMethod_found hsame
  cases hn.symm.trans hn1
  obtain ⟨mk, methM, hnamed, hmethM, -, habM⟩ := Cond.instanceMethod_spec hinst
  obtain ⟨c2, r2, m2, q1, q2, q3, q4, kP, hkP, hkPi⟩ := Cond.selects_spec hsel
  cases hcls.symm.trans q1
  cases hf.symm.trans q2
  cases hnamed.symm.trans q3
  have hselP : selectMethod e.platform s.vm cellB.cls r0 = .method mk := by rw [Launch.admits_selectMethod X.admits]; exact q4
  obtain ⟨vm₁, X₁, hstep₁⟩ := X.invokevirtualUp hexec hown hlink hsame howner hn hrm hstR (a := b) (cell := cellB) hcell
    (fun z h => by rw [h] at hobj; cases hobj) hselP hmethM habM hkP hkPi (g := g) hg (argsL := argsL) (rest := rest) (hlen _ hsigR) hstack hdg
  rcases hK m meth c ⟨T.setVm vm₁, locs, cells, slots⟩ { g with stack := rest } (.invokevirtual index) mk (Value.ref b :: argsL).toArray X₁ hg hsize hdg hW (X₁.named hnamed) (hpre vm₁ X₁.warmed) with ⟨v, B, X', hpost, hsteps⟩ | ⟨q, B, X', hpost, hsteps⟩
  · exact Or.inl ⟨v, vm₁, B, X₁.warmed, X', hpost, fun target h => hstep₁ _ fun acts => by rw [doInvoke_state]; exact hsteps.trans h⟩
  · exact Or.inr ⟨q, vm₁, B, X₁.warmed, X', hpost, hstep₁ _ fun acts => by rw [doInvoke_state]; exact hsteps⟩
end
section
variable {p : Program} {l : Launch} {e : Env} {R : Room} {s : State} {m : MethodId} {args : Array Value} {below : List Frame} {meth : Method} {c : Code} {H : Heap} {locs : List Loc} {cells slots : Nat}
theorem vz_runU {x y : MethodName} {bytes cc : ByteArray} {maxL nL mc ms mx sx n index : Nat} {ret : Option FieldType} {ws : List Cond} {rm : Room} {Pc : Array Value → State → Prop} {Qc : Array Value → State → Outcome → State → Prop} {XC : String → Nat → State → State → Prop} {free : Addr → Prop} {Ts : List Cond} {own C owner : String} {b : Addr} {As rest : List Value} {g : JFrame}
    (S : CallFix p m c cc nL s args Ts own) (hM : vz_Met l y ws rm Pc Qc XC mc ms free) (cw : va_CU R s args own C owner index x y bytes maxL ret ws rm mx sx n) (hp : PreV s H C b Pc As)
    (hg : g.method = m) (hn : As.length = n) (hsize : g.locals.size = nL) (hstack : g.stack = As.reverse ++ .ref b :: rest) (hW : 2 * g.monitorRoom + (rest.map fun v => v.category).sum ≤ 8) (hdg : decode cc g.pc = .ok (.invokevirtual index, 3)) (hf : cells + mx ≤ R.cells ∧ slots + sx ≤ R.slots) :
    vz_Run p l e R s m args below meth c H locs cells slots mc ms mx sx g rest (Qc (Value.ref b :: As).toArray) XC free := by
  obtain ⟨hrc, hrs, hfr, hlo, hws, hcw⟩ := cw.back
  have hini := cw.init
  have hK : vz_Back l R p e below s args y 3 8 (PreOf R mx sx Pc) (PostOf Qc mc ms free) (vz_Post XC mx sx free) := vz_back (bytes := bytes) (maxL := maxL) (ret := ret) hM hp.1 hrc hrs hfr hlo hws hcw (fun a' U hW => word_at hW (Or.inl (by first | rfl | simp [Cond.onTables, Cond.keeps, Cond.steady])) hini)
  obtain ⟨hx, hb, hml, ho, -⟩ := S
  obtain ⟨-, ⟨cellB, hcB, hoB, hclB⟩, hPc⟩ := hp
  intro T hT X
  rcases vz_callVU X hx (C := C) (owner := owner) (bytes := bytes) (maxL := maxL) (ret := ret) ho cw.link cw.same cw.decl cw.notMH cw.sel cw.inst cw.code hK (by rw [hT]; exact hcB) hoB hclB hg (hsize.trans hml.symm) (argsL := As) (rest := rest) (fun sig h => hn.trans (cw.len sig h)) hstack hW (by rw [hb]; exact hdg)
    (fun vm₁ hW₁ => ⟨hf.1, hf.2, hPc (T.setVm vm₁) hT hW₁⟩) with ⟨v, vm₁, ⟨U', l2, c2, s2⟩, hW₁, X', ⟨g', mk, t, L, e1, e2, hq, h1, hL, h2, h3⟩, st⟩ | ⟨q, vm₁, ⟨U', l2, c2, s2⟩, hW₁, X', ⟨g', mk, t, L, E, ce, e1, e2, hq, hce, hcv, hcl, h1, hL, h2, h3⟩, st⟩
  · dsimp only [Pt.U, Pt.locs, Pt.cells, Pt.slots] at X' e1 e2 h1 h2 h3 st
    subst h1; subst h2; subst h3
    exact Or.inl ⟨v, (T.setVm vm₁).calling g' mk (Value.ref b :: As).toArray, t, U', L, hT, X', hL, e1, e2, hq, st⟩
  · dsimp only [Pt.U, Pt.locs, Pt.cells, Pt.slots] at X' e1 e2 h1 h2 h3 st hcl
    subst h1; subst h2; subst h3
    exact Or.inr ⟨q, (T.setVm vm₁).calling g' mk (Value.ref b :: As).toArray, t, U', L, E, ce, hT, X', hL, e1, e2, hq, hce, hcv, vx_cls hW₁ hcl, st⟩
end
section
variable {p : Program} {l : Launch} {e : Env} {R : Room} {s : State} {m : MethodId} {args : Array Value} {below : List Frame} {meth : Method} {c : Code} {H : Heap} {locs : List Loc} {cells slots : Nat}
theorem vz_callSU {T : State} {locs : List Loc} {cells slots : Nat} (X : Stand p l e R s m args below meth c T locs cells slots) (hexec : p.tables.exec = Jvm.exec) {own : String} {index : Nat} {y : MethodName} {bytes : ByteArray} {maxL : Nat} {ret : Option FieldType}
    (hown : s.vm.findClass own = some m.cls) (hlink : (Cond.methodLink own index y).before args s = true) (hsame : (Cond.sameMethod y.cls y.cls y.name y.desc).before args s = true) (hsup : (Cond.superclass own y.cls).before args s = true)
    (hinst : (Cond.instanceMethod y).before args s = true) (hcode : (Cond.code y bytes maxL ret).before args s = true) (hno : y.name ≠ "<init>")
    {W : Nat} {Pre : Pt → Array Value → Prop} {Post : Pt → Array Value → Option Value → Pt → Prop} {PostX : Pt → Array Value → Addr → Pt → Prop} (hK : vz_Back l R p e below s args y 3 W Pre Post PostX)
    {b : Addr} {cellB : Cell} {kB : Class} (hcell : T.heap[b]? = some cellB) (hobj : cellB.vm.isStatics = false) (hkB : s.vm.classes[cellB.cls]? = some kB)
    {g : JFrame} (hg : g.method = m) (hsize : g.locals.size = c.maxLocals) {argsL rest : List Value} (hlen : ∀ sig, parseMethodDescriptor y.desc = some sig → argsL.length = sig.parameters.length)
    (hstack : g.stack = argsL.reverse ++ .ref b :: rest) (hW : 2 * g.monitorRoom + (rest.map fun v => v.category).sum ≤ W) (hdg : decode c.code g.pc = .ok (.invokespecial index, 3))
    (hpre : ∀ vm₁, s.WarmedH vm₁ → Pre ⟨T.setVm vm₁, locs, cells, slots⟩ (Value.ref b :: argsL).toArray) :
    (∃ (v : Option Value) (vm₁ : Vm) (B : Pt), s.WarmedH vm₁ ∧ Stand p l e R s m args below meth c B.U B.locs B.cells B.slots ∧ Post ⟨T.setVm vm₁, locs, cells, slots⟩ (Value.ref b :: argsL).toArray v B ∧
      ∀ target, Steps p.tables e below (B.U.setTop { g with pc := g.pc + 3, stack := v.toList ++ rest }) target → Steps p.tables e below (T.setTop g) target) ∨
    (∃ (q : Addr) (vm₁ : Vm) (B : Pt), s.WarmedH vm₁ ∧ Stand p l e R s m args below meth c B.U B.locs B.cells B.slots ∧ PostX ⟨T.setVm vm₁, locs, cells, slots⟩ (Value.ref b :: argsL).toArray q B ∧
      Steps p.tables e below (T.setTop g) ((B.U.setTop { g with stack := rest }).pushFrame (.throwing q))) := by
  obtain ⟨mk, methM, hnamed, hmethM, hstM, habM⟩ := Cond.instanceMethod_spec hinst
  obtain ⟨methM', cM, hmethM', -, -, -, -, -, -, hsigM⟩ := Cond.code_spec hnamed hcode
  cases hmethM.symm.trans hmethM'
  obtain ⟨ps, dk, kp, hps, hdk, hkp, hsuper, -, -, hnid⟩ := Cond.superclass_spec hown hsup
  have hn : s.methodNamed? ⟨y.cls, y.name, y.desc⟩ = some mk := hnamed
  have hpm : ps = mk.cls := Option.some.inj (hps.symm.trans (findClass_of_methodNamed hnamed))
  have hsub : s.vm.isSubclass ps mk.cls = true := by rw [hpm]; simp [Vm.isSubclass, Vm.isSubclassAux]
  obtain ⟨vm₁, X₁, hstep₁⟩ := X.invokespecialUp hexec hown hlink hsame hn hmethM hstM habM hno hdk hnid hps hsuper hsub (a := b) (cell := cellB) hcell
    (fun z h => by rw [h] at hobj; cases hobj) hkB (g := g) hg (argsL := argsL) (rest := rest) (hlen _ hsigM) hstack hdg
  rcases hK m meth c ⟨T.setVm vm₁, locs, cells, slots⟩ { g with stack := rest } (.invokespecial index) mk (Value.ref b :: argsL).toArray X₁ hg hsize hdg hW (X₁.named hnamed) (hpre vm₁ X₁.warmed) with ⟨v, B, X', hpost, hsteps⟩ | ⟨q, B, X', hpost, hsteps⟩
  · exact Or.inl ⟨v, vm₁, B, X₁.warmed, X', hpost, fun target h => hstep₁ _ (by rw [doInvoke_state]; exact hsteps.trans h)⟩
  · exact Or.inr ⟨q, vm₁, B, X₁.warmed, X', hpost, hstep₁ _ (by rw [doInvoke_state]; exact hsteps)⟩
end
section
variable {p : Program} {l : Launch} {e : Env} {R : Room} {s : State} {m : MethodId} {args : Array Value} {below : List Frame} {meth : Method} {c : Code} {H : Heap} {locs : List Loc} {cells slots : Nat}
theorem vz_runSU {y : MethodName} {bytes cc : ByteArray} {maxL nL mc ms mx sx n index : Nat} {ret : Option FieldType} {ws : List Cond} {rm : Room} {Pc : Array Value → State → Prop} {Qc : Array Value → State → Outcome → State → Prop} {XC : String → Nat → State → State → Prop} {free : Addr → Prop} {Ts : List Cond} {own C : String} {cC : ClassId} {b : Addr} {As rest : List Value} {g : JFrame}
    (hat : ClassAt s C cC) (S : CallFix p m c cc nL s args Ts own) (hM : vz_Met l y ws rm Pc Qc XC mc ms free) (cw : va_CS R s args own index y bytes maxL ret ws rm mx sx n) (hp : PreV s H C b Pc As)
    (hg : g.method = m) (hn : As.length = n) (hsize : g.locals.size = nL) (hstack : g.stack = As.reverse ++ .ref b :: rest) (hW : 2 * g.monitorRoom + (rest.map fun v => v.category).sum ≤ 8) (hdg : decode cc g.pc = .ok (.invokespecial index, 3)) (hf : cells + mx ≤ R.cells ∧ slots + sx ≤ R.slots) :
    vz_Run p l e R s m args below meth c H locs cells slots mc ms mx sx g rest (Qc (Value.ref b :: As).toArray) XC free := by
  obtain ⟨⟨hrc, hrs, hfr, hlo, hws, hcw⟩, hl1, hl2, hl3, hl4, hini, hcode, hno, hlen⟩ := cw
  have hK : vz_Back l R p e below s args y 3 8 (PreOf R mx sx Pc) (PostOf Qc mc ms free) (vz_Post XC mx sx free) := vz_back (bytes := bytes) (maxL := maxL) (ret := ret) hM hp.1 hrc hrs hfr hlo hws hcw (fun a' U hW => word_at hW (Or.inl (by first | rfl | simp [Cond.onTables, Cond.keeps, Cond.steady])) hini)
  obtain ⟨hx, hb, hml, ho, -⟩ := S
  obtain ⟨-, ⟨cellB, hcB, hoB, hclB⟩, hPc⟩ := hp
  obtain ⟨hfc, kB, hkB, -⟩ := hat
  cases hfc.symm.trans hclB
  intro T hT X
  rcases vz_callSU X hx (bytes := bytes) (maxL := maxL) (ret := ret) ho hl1 hl2 hl3 hl4 hcode hno hK (by rw [hT]; exact hcB) hoB hkB hg (hsize.trans hml.symm) (argsL := As) (rest := rest) (fun sig h => hn.trans (hlen sig h)) hstack hW (by rw [hb]; exact hdg)
    (fun vm₁ hW₁ => ⟨hf.1, hf.2, hPc (T.setVm vm₁) hT hW₁⟩) with ⟨v, vm₁, ⟨U', l2, c2, s2⟩, hW₁, X', ⟨g', mk, t, L, e1, e2, hq, h1, hL, h2, h3⟩, st⟩ | ⟨q, vm₁, ⟨U', l2, c2, s2⟩, hW₁, X', ⟨g', mk, t, L, E, ce, e1, e2, hq, hce, hcv, hcl, h1, hL, h2, h3⟩, st⟩
  · dsimp only [Pt.U, Pt.locs, Pt.cells, Pt.slots] at X' e1 e2 h1 h2 h3 st
    subst h1; subst h2; subst h3
    exact Or.inl ⟨v, (T.setVm vm₁).calling g' mk (Value.ref b :: As).toArray, t, U', L, hT, X', hL, e1, e2, hq, st⟩
  · dsimp only [Pt.U, Pt.locs, Pt.cells, Pt.slots] at X' e1 e2 h1 h2 h3 st hcl
    subst h1; subst h2; subst h3
    exact Or.inr ⟨q, (T.setVm vm₁).calling g' mk (Value.ref b :: As).toArray, t, U', L, E, ce, hT, X', hL, e1, e2, hq, hce, hcv, vx_cls hW₁ hcl, st⟩
end
section
variable {p : Program} {l : Launch} {e : Env} {R : Room} {s : State} {m : MethodId} {args : Array Value} {below : List Frame} {meth : Method} {c : Code} {H : Heap} {locs : List Loc} {cells slots : Nat} {Q : State → Prop}
variable {mc ms : Nat} {free : Addr → Prop} {A0 A1 : Nat → Prop} {H0 : Heap} {a : Array Value} {ls : Array Slot} {st0 rest : List Value}
variable {Qc : Array Value → State → Outcome → State → Prop} {XC : String → Nat → State → State → Prop}
def vz_MQ (below : List Frame) (Qc : Array Value → State → Outcome → State → Prop) (XC : String → Nat → State → State → Prop) (a : Array Value) (s : State) (mc ms mx sx : Nat) (free : Addr → Prop) : State → Prop := fun t =>
  ∃ o, t.status = .running ∧ Ended t below o ∧ vz_Q Qc XC mc ms mx sx free a s o t
theorem vz_ret {g : JFrame} {mc ms mx sx : Nat} (k : W p l e R s m args below meth c H locs cells slots (MQ below Qc args s mc ms free) g) : W p l e R s m args below meth c H locs cells slots (vz_MQ below Qc XC args s mc ms mx sx free) g := by
  intro T hT X
  obtain ⟨t, a1, o, b1, b2, b3, b4⟩ := k T hT X
  exact ⟨t, a1, o, b1, b2, Or.inl ⟨b3, b4⟩⟩
theorem vz_out {pc : Nat} {E : String} {ce : Cell} {q : Addr} {mc ms mx sx : Nat} (hout : ∀ x ∈ c.exceptionTable.toList, covers x pc = false) (hlocks : meth.locks = false) (hcell : H[q]? = some ce) (hv : ce.vm = .none) (hcl : s.vm.findClass E = some ce.cls)
    (hx : ∀ t : State, t.heap = H → s.vm.Alike t.vm → XC E q s t) (hf : ∀ z ∈ locs, free z.base) (hc : cells ≤ mx) (hs : slots ≤ sx) :
    vx_W p l e R s m args below meth c H locs cells slots (vz_MQ below Qc XC args s mc ms mx sx free) (F0 m pc ls rest) q := by
  intro T hT X
  obtain ⟨st1, hrun, hend, hW, hsm⟩ := X.leaveThrown q (g := F0 m pc ls rest) rfl rfl rfl hout hlocks
  have hcell9 : (T.setFrames (.throwing q :: below)).heap[q]? = some ce := by
    show T.heap[q]? = some ce
    rw [hT]; exact hcell
  exact ⟨_, st1, .threw q, hrun, hend, Or.inr ⟨q, rfl, E, ce, locs, hx _ hT hW.alike, hcell9, hv, hcl, hW, hsm.mono hc hs, hf⟩⟩
end
section
variable {l : Launch}
theorem vz_ofW {y : MethodName} {ws ws' : List Cond} {rm : Room} {Pc : Array Value → State → Prop} {Qc : Array Value → State → Outcome → State → Prop} {XC : String → Nat → State → State → Prop} {mc ms : Nat} {free : Addr → Prop} {cc : ByteArray} {maxL : Nat} {ret : Option FieldType}
    (hy : plainName y.cls = true) (hw : ws = Cond.code y cc maxL ret :: ws')
    (body : ∀ p e s m args below meth c s₁, BodyLoose p l y (headSpec ws rm) cc maxL ret e s m args below meth c s₁ → c.maxLocals = maxL → (∀ x ∈ c.exceptionTable.toList, False) → Pc args s →
      W p l e (headSpec ws rm).room s m args below meth c s.heap [] 0 0 (vz_MQ below Qc XC args s mc ms rm.cells rm.slots free) (entryFrame m args maxL)) : vz_Met l y ws rm Pc Qc XC mc ms free := by
  refine MetFree.of_bodyS (code := cc) (maxLocals := maxL) (ret := ret) hy ?_ ?_
  · intro args s m h hn
    obtain ⟨meth, c, h1, h2, h3, h4, h5, h6, -, -⟩ := Cond.code_spec hn (atoms_spec (ws := ws) h _ (by rw [hw]; exact List.mem_cons_self))
    exact ⟨meth, c, h1, h2, h3, h4, h5, h6⟩
  · intro p e s m args below meth c s₁ B hml hP _
    have hh0 : s₁.heap = s.heap := by rw [B.state]; rfl
    have ht : ∀ x ∈ c.exceptionTable.toList, False := by
      obtain ⟨meth9, c9, h1, h2, -, -, -, -, h7, -⟩ := Cond.code_spec B.named (atoms_spec (ws := ws) B.pre _ (by rw [hw]; exact List.mem_cons_self))
      cases Option.some.inj (h1.symm.trans B.method)
      cases Option.some.inj (h2.symm.trans (Stand.of_body B).code)
      intro x hx
      rw [Array.isEmpty_iff.mp h7] at hx
      cases hx
    obtain ⟨t, a1, o, b1, b2, b3⟩ := body p e s m args below meth c s₁ B hml ht hP s₁ hh0 (Stand.of_body B)
    exact ⟨t, o, a1, b1, b2, b3⟩
end
end FZ0
/-! DEFAULT METHODS: the words of narrow_1 on them -/
abbrev yTc : MethodName := ⟨"FigureTill$Till", "comes", "(ILFigureTill$Trace;)I"⟩
abbrev yLc : MethodName := ⟨"FigureTill$Last", "comes", "(ILFigureTill$Trace;)I"⟩
abbrev yCc : MethodName := ⟨"FigureTill$Comes", "comes", "(ILFigureTill$Trace;)I"⟩
def dfA : List Cond := [.methodLink "FigureTill" 335 yTc, .sameMethod "FigureTill$Till" "FigureTill$Comes" "comes" "(ILFigureTill$Trace;)I", .methodLink "FigureTill$Root" 28 yTc, .methodLink "FigureTill$Told" 35 yTc, .methodLink "FigureTill$Till" 28 yTc, .methodLink "FigureTill$Last" 26 yLc, .sameMethod "FigureTill$Last" "FigureTill$Comes" "comes" "(ILFigureTill$Trace;)I"]
def dfL : List (String × MethodName) := [("FigureTill$Till", yTc), ("FigureTill$Last", yTc), ("FigureTill$Errs", yTc), ("FigureTill$Floor", yTc), ("FigureTill$Last", yLc), ("FigureTill$Floor", yLc)]
def df_K (U : State) : Prop := (∀ w ∈ dfA, va_Nw w U) ∧ (∀ q ∈ dfL, (Cond.landsInDefault q.1 q.2 yCc).before #[] U = true) ∧ (Cond.declares yCc).before #[] U = true
theorem dfA_ok : ∀ w ∈ dfA, (w.onTables && w.keeps) = true := by
  intro w hw
  simp only [dfA, List.mem_cons, List.not_mem_nil, or_false] at hw
  rcases hw with h | h | h | h | h | h | h <;> subst h <;> rfl
theorem df_same {U : State} (h : df_K U) : ∀ q ∈ dfL, (Cond.sameMethod q.2.cls "FigureTill$Comes" "comes" "(ILFigureTill$Trace;)I").before #[] U = true ∧ q.2.name = "comes" ∧ q.2.desc = "(ILFigureTill$Trace;)I" := by
  intro q hq
  have h1 : (Cond.sameMethod "FigureTill$Till" "FigureTill$Comes" "comes" "(ILFigureTill$Trace;)I").before #[] U = true := h.1 _ (List.mem_of_getElem? (i := 1) rfl)
  have h2 : (Cond.sameMethod "FigureTill$Last" "FigureTill$Comes" "comes" "(ILFigureTill$Trace;)I").before #[] U = true := h.1 _ (List.mem_of_getElem? (i := 6) rfl)
  simp only [dfL, List.mem_cons, List.not_mem_nil, or_false] at hq
  rcases hq with h | h | h | h | h | h <;> subst h <;> first | exact ⟨h1, rfl, rfl⟩ | exact ⟨h2, rfl, rfl⟩
theorem df_K.warm {s U : State} (hW : s.WarmedH U.vm) (h : df_K s) : df_K U := by
  have hA : ∀ w ∈ dfA, va_Nw w U := fun w hw => word_at hW (Or.inl (dfA_ok w hw)) (h.1 w hw)
  refine ⟨hA, fun q hq => ?_, ?_⟩
  · obtain ⟨g1, g2, g3⟩ := df_same h q hq
    have g4 : (Cond.sameMethod q.2.cls "FigureTill$Comes" "comes" "(ILFigureTill$Trace;)I").before #[] (s.setVm U.vm) = true := word_at (U := s.setVm U.vm) hW (Or.inl rfl) g1
    obtain ⟨-, -, r, -, -, -, f1, n1⟩ := Cond.sameMethod_found g1
    obtain ⟨-, -, r2, -, -, -, f2, n2⟩ := Cond.sameMethod_found g4
    rw [State.methodNamed?_setVm hW.alike] at n2
    cases n1.symm.trans n2
    have hf : (s.setVm U.vm).methodFound? q.2.cls q.2.name q.2.desc = s.methodFound? q.2.cls q.2.name q.2.desc := by rw [g2, g3, f1, f2]
    have e := Cond.landsInDefault_setVm (args := #[]) (args' := #[]) hW.alike (cls := q.1) (x := q.2) (y := yCc) hf
    have e2 : (Cond.landsInDefault q.1 q.2 yCc).before #[] U = (Cond.landsInDefault q.1 q.2 yCc).before #[] (s.setVm U.vm) := rfl
    rw [e2, e]
    exact h.2.1 q hq
  · have e := Cond.declares_setVm (args := #[]) hW.alike yCc
    have e2 : (Cond.declares yCc).before #[] U = (Cond.declares yCc).before #[] (s.setVm U.vm) := rfl
    rw [e2, e]
    exact h.2.2
/-! THE fz LAYER: methods over the JDK's constants (String constants, Throwable's statics), returning or throwing one kind of exception -/
abbrev fz_Ks : Type := (Nat → Nat) × (Nat → Nat)
def fz_len : List Nat := [3, 3, 3, 2, 3]
def fz_byt : List (List Int32) := [[115, 107, 109], [116, 112, 99], [60, 61, 62], [43, 45], [42, 47, 37]]
def fz_R (ks : fz_Ks) (U : State) : Prop := vk_R "FigureTill" 39 "skm" (ks.1 0) U ∧ vk_R "FigureTill" 41 "tpc" (ks.1 1) U ∧ vk_R "FigureTill$Reader" 72 "<=>" (ks.1 2) U ∧ vk_R "FigureTill$Reader" 81 "+-" (ks.1 3) U ∧ vk_R "FigureTill$Reader" 86 "*/%" (ks.1 4) U
def fz_Z (ks : fz_Ks) (A : Nat → Prop) (U : State) (H : Heap) : Prop :=
  (vx_Zq Bundle.tN "UNASSIGNED_STACK" Bundle.steD A U H ∧ vx_Zq Bundle.tN "SUPPRESSED_SENTINEL" Bundle.listD A U H ∧ df_K U) ∧ va_Z "java/lang/String" "COMPACT_STRINGS" "Z" (.int 1) A U H ∧ vk_S 5 fz_len fz_byt ks.1 ks.2 A U H ∧ fz_R ks U
theorem fz_R.warm {ks : fz_Ks} {s U : State} (hW : s.WarmedH U.vm) (h : fz_R ks s) : fz_R ks U :=
  ⟨vk_R.warm hW h.1, vk_R.warm hW h.2.1, vk_R.warm hW h.2.2.1, vk_R.warm hW h.2.2.2.1, vk_R.warm hW h.2.2.2.2⟩
theorem fz_R.same {ks : fz_Ks} {u U : State} (e : U.vm = u.vm) (h : fz_R ks u) : fz_R ks U :=
  ⟨vk_R.same e h.1, vk_R.same e h.2.1, vk_R.same e h.2.2.1, vk_R.same e h.2.2.2.1, vk_R.same e h.2.2.2.2⟩
theorem fz_Z.kept {ks : fz_Ks} {A : Nat → Prop} {U : State} {H H1 : Heap} (h : fz_Z ks A U H) (hq : ∀ a : Nat, a < H.size → ¬ A a → H1[a]? = H[a]?) : fz_Z ks A U H1 :=
  ⟨⟨h.1.1.kept hq, h.1.2.1.kept hq, h.1.2.2⟩, h.2.1.kept hq, h.2.2.1.kept hq, h.2.2.2⟩
theorem fz_Z.warm {ks : fz_Ks} {A : Nat → Prop} {s U : State} {H : Heap} (hW : s.WarmedH U.vm) (h : fz_Z ks A s H) : fz_Z ks A U H :=
  ⟨⟨vx_Zq.moved hW.alike h.1.1, vx_Zq.moved hW.alike h.1.2.1, h.1.2.2.warm hW⟩, va_Z.moved hW.alike h.2.1, vk_S.moved hW.alike h.2.2.1, h.2.2.2.warm hW⟩
theorem fz_Z.same {ks : fz_Ks} {A : Nat → Prop} {u U : State} {H : Heap} (e : u.vm = U.vm) (h : fz_Z ks A u H) : fz_Z ks A U H := by
  have hW : u.WarmedH U.vm := by rw [← e]; exact State.WarmedH.refl u
  exact h.warm hW
theorem fz_Z.narrow {ks : fz_Ks} {A B : Nat → Prop} {U : State} {H : Heap} (h : fz_Z ks A U H) (hAB : ∀ q, B q → A q) : fz_Z ks B U H :=
  ⟨⟨h.1.1.narrow hAB, h.1.2.1.narrow hAB, h.1.2.2⟩, h.2.1.narrow hAB, h.2.2.1.narrow hAB, h.2.2.2⟩
def fz_P (E : fx_En) (ks : fz_Ks) (av : List Value) (w Rl : va_W) (sz : Nat) : Array Value → State → Prop := va_Pc av (fun U => U.heap.size = sz ∧ va_P E.1 clA w U.heap ∧ fx_K E U ∧ va_D (fun _ => True) w ∧ fx_R E (va_A w sz) Rl U.heap ∧ fz_Z ks (va_A w sz) U U.heap)
theorem fz_blind {E : fx_En} {ks : fz_Ks} {av : List Value} {w Rl : va_W} {sz : Nat} : FrameBlind (fz_P E ks av w Rl sz) := by
  intro a U g mk h
  obtain ⟨h0, h1, h2, h3, h4, h5, h6⟩ := h
  exact ⟨h0, h1, h2, fx_K.same (u := U) (U := U.calling g mk a) rfl h3, h4, h5, fz_Z.same (u := U) (U := U.calling g mk a) rfl h6⟩
theorem fz_pre {E : fx_En} {ks : fz_Ks} {A : Nat → Prop} {av : List Value} {s : State} {ws wc Rl Rc : va_W} {H : Heap} {locs : List Loc} (hE : fx_K E s) (hP : va_P E.1 clA ws H) (hD : va_D A ws) (hS : va_S A s.heap H locs) (hR : fx_R E A Rl s.heap) (hZ : fz_Z ks A s s.heap) (hA : ∀ q, s.heap.size ≤ q → A q) (is : List Nat) (hn : va_nd is = true) (hC : is.map (fun i => ws[i]?) = wc.map some)
    (hc : ∀ q ∈ Rc, (∃ j, ws[j]? = some q ∧ j ∉ is) ∨ q ∈ Rl) : FrameBlind (fz_P E ks av wc Rc H.size) ∧ ∀ U : State, U.heap = H → s.WarmedH U.vm → fz_P E ks av wc Rc H.size av.toArray U := by
  refine ⟨fz_blind, fun U hU hW => ⟨rfl, by rw [hU], by rw [hU]; exact fx_Pof hP is hC, fx_K.warm hW hE, fx_Dof hD is hn hC, by rw [hU]; exact fx_Rof hP hD hS hR is hC hc, ?_⟩⟩
  rw [hU]
  exact ((hZ.kept hS.2.1).narrow (fx_free hD hS hA is hC)).warm hW
/-- what is thrown: EX, at q -/
def fz_X {SX : Type} (EX : String) (px : Nat → SX → Prop) (B : SX → State → Prop) (A : Nat → Prop) : String → Nat → State → State → Prop := fun E q st t => E = EX ∧ ∃ u : SX, px q u ∧ B u t ∧ va_F A st t
def fz_Mi (l : Launch) (y : MethodName) (cc : ByteArray) (nL : Nat) (rt : FieldType) (rm : Room) (mc ms : Nat) (E : fx_En) (ks : fz_Ks) (av : List Value) (w Rl : va_W) {S : Type} (w' : S → va_W) (post : Int32 → S → Prop) (EX : String) {SX : Type} (wx : SX → va_W) (px : Nat → SX → Prop) : Prop :=
  ∀ sz, vz_Met l y (ws_ y cc nL (some rt)) rm (fz_P E ks av w Rl sz) (va_Qi post (fx_B E (va_A w sz) w') (va_A w sz)) (fz_X EX px (fx_B E (va_A w sz) wx) (va_A w sz)) mc ms (va_A w sz)
def fz_Mv (l : Launch) (y : MethodName) (cc : ByteArray) (nL : Nat) (rm : Room) (mc ms : Nat) (E : fx_En) (ks : fz_Ks) (av : List Value) (w Rl : va_W) {S : Type} (w' : S → va_W) (post : S → Prop) (EX : String) {SX : Type} (wx : SX → va_W) (px : Nat → SX → Prop) : Prop :=
  ∀ sz, vz_Met l y (ws_ y cc nL none) rm (fz_P E ks av w Rl sz) (va_Qv post (fx_B E (va_A w sz) w') (va_A w sz)) (fz_X EX px (fx_B E (va_A w sz) wx) (va_A w sz)) mc ms (va_A w sz)
def fz_Mq (l : Launch) (y : MethodName) (cc : ByteArray) (nL : Nat) (rt : FieldType) (rm : Room) (mc ms : Nat) (E : fx_En) (ks : fz_Ks) (av : List Value) (w Rl : va_W) {S : Type} (w' : S → va_W) (post : Option Nat → S → Prop) (EX : String) {SX : Type} (wx : SX → va_W) (px : Nat → SX → Prop) : Prop :=
  ∀ sz, vz_Met l y (ws_ y cc nL (some rt)) rm (fz_P E ks av w Rl sz) (va_Qq post (fx_B E (va_A w sz) w') (va_A w sz)) (fz_X EX px (fx_B E (va_A w sz) wx) (va_A w sz)) mc ms (va_A w sz)
/-- the end of a throwing path -/
abbrev fz_Th (p : Program) (l : Launch) (e : Env) (rm : Room) (s : State) (m : MethodId) (args : Array Value) (below : List Frame) (meth : Method) (c : Code) (A : Nat → Prop) (Q : State → Prop) (E : fx_En) (EX : String) {SX : Type} (wx : SX → va_W) (px : Nat → SX → Prop) : Prop :=
  ∀ (q : Nat) (u : SX) {H : Heap} {locs : List Loc} {cells slots pc : Nat} {ls : Array Slot} {rest : List Value} {ce : Cell}, px q u → va_P E.1 clA (wx u) H → va_D A (wx u) → va_S A s.heap H locs → cells ≤ rm.cells → slots ≤ rm.slots → H[q]? = some ce → ce.vm = .none → s.vm.findClass EX = some ce.cls → vx_W p l e rm s m args below meth c H locs cells slots Q (F0 m pc ls rest) q
section FZ1
variable {l : Launch} {y : MethodName} {cc : ByteArray} {nL mc ms : Nat} {rt : FieldType} {rm : Room} {E : fx_En} {ks : fz_Ks} {av : List Value} {w Rl : va_W} {S SX : Type} {w' : S → va_W} {EX : String} {wx : SX → va_W} {px : Nat → SX → Prop}
theorem fz_iW {post : Int32 → S → Prop} (hy : plainName y.cls = true) (hav : Nat.ble (lg_sl av).length nL = true)
    (body : ∀ (p : Program) (e : Env) (s : State) (m : MethodId) (args : Array Value) (below : List Frame) (meth : Method) (c : Code) (A : Nat → Prop) (ls : Array Slot) (Q : State → Prop), CallFix p m c cc nL s args lw_all y.cls → meth.name = y.name → fx_K E s → va_P E.1 clA w s.heap → va_D A w → fx_R E A Rl s.heap → fz_Z ks A s s.heap → (∀ q, s.heap.size ≤ q → A q) → lv_has ls nL (lv_args 0 av) →
      (∀ (v : Int32) (u : S) {H : Heap} {locs : List Loc} {cells slots pc : Nat} {ls : Array Slot}, post v u → narrow rt (.int v) = .int v → va_P E.1 clA (w' u) H → va_D A (w' u) → va_S A s.heap H locs → cells ≤ mc → slots ≤ ms → decode cc pc = .ok (.ireturn, 1) → W p l e rm s m args below meth c H locs cells slots Q (F0 m pc ls [.int v])) →
      fz_Th p l e rm s m args below meth c A Q E EX wx px →
      W p l e rm s m args below meth c s.heap [] 0 0 Q (F0 m 0 ls [])) : fz_Mi l y cc nL rt rm mc ms E ks av w Rl w' post EX wx px := by
  intro sz
  refine vz_ofW (cc := cc) (maxL := nL) (ret := some rt) hy rfl ?_
  intro p e s m args below meth c s₁ B hml htab hv
  obtain ⟨rfl, hsz, hP, hE, hD0, hR, hZ⟩ := hv
  have hts := atoms_spec (ws := ws_ y cc nL (some rt)) B.pre
  have hts : ∀ w ∈ lw_all, w.before _ s = true := fun w h => hts w (List.mem_cons_of_mem _ h)
  have hown : s.vm.findClass y.cls = some m.cls := findClass_of_methodNamed B.named
  have hlocks := B.notSynchronized
  have hr := B.returns
  have hD := hD0.self (sz := sz)
  have hl := lv_entry av (n := nL) (Nat.le_of_ble_eq_true hav)
  rw [lg_entry_eq]
  refine body p e s m _ below meth c (va_A w sz) _ _ ⟨B.exec, B.bytes, hml, hown, hts⟩ (name_of_methodNamed B.named B.method).1 hE hP hD hR hZ (fun q h => Or.inr (by rw [← hsz]; exact h)) hl ?_ ?_
  · intro v u H locs cells slots pc ls hp hn hP' hD' hS hc hs hd
    refine W.widen hc hs ?_
    exact vz_ret (W.zret (v := v) B.exec B.bytes hr hn (fun t ht hW => ⟨⟨v, u, rfl, hp, by rw [ht]; exact hP', hD'⟩, hS.F ht⟩) hS.2.2 hd)
  · intro q u H locs cells slots pc ls rest ce hp hP' hD' hS hc hs hce hcv hcl
    exact vz_out (fun x hx => (htab x hx).elim) hlocks hce hcv hcl (fun t ht hW => ⟨rfl, u, hp, ⟨by rw [ht]; exact hP', hD'⟩, hS.F ht⟩) hS.2.2 hc hs
theorem fz_vW {post : S → Prop} (hy : plainName y.cls = true) (hav : Nat.ble (lg_sl av).length nL = true)
    (body : ∀ (p : Program) (e : Env) (s : State) (m : MethodId) (args : Array Value) (below : List Frame) (meth : Method) (c : Code) (A : Nat → Prop) (ls : Array Slot) (Q : State → Prop), CallFix p m c cc nL s args lw_all y.cls → meth.name = y.name → fx_K E s → va_P E.1 clA w s.heap → va_D A w → fx_R E A Rl s.heap → fz_Z ks A s s.heap → (∀ q, s.heap.size ≤ q → A q) → lv_has ls nL (lv_args 0 av) →
      (∀ (u : S) {H : Heap} {locs : List Loc} {cells slots pc : Nat} {ls : Array Slot}, post u → va_P E.1 clA (w' u) H → va_D A (w' u) → va_S A s.heap H locs → cells ≤ mc → slots ≤ ms → decode cc pc = .ok (.return_, 1) → W p l e rm s m args below meth c H locs cells slots Q (F0 m pc ls [])) →
      fz_Th p l e rm s m args below meth c A Q E EX wx px →
      W p l e rm s m args below meth c s.heap [] 0 0 Q (F0 m 0 ls [])) : fz_Mv l y cc nL rm mc ms E ks av w Rl w' post EX wx px := by
  intro sz
  refine vz_ofW (cc := cc) (maxL := nL) (ret := none) hy rfl ?_
  intro p e s m args below meth c s₁ B hml htab hv
  obtain ⟨rfl, hsz, hP, hE, hD0, hR, hZ⟩ := hv
  have hts := atoms_spec (ws := ws_ y cc nL none) B.pre
  have hts : ∀ w ∈ lw_all, w.before _ s = true := fun w h => hts w (List.mem_cons_of_mem _ h)
  have hown : s.vm.findClass y.cls = some m.cls := findClass_of_methodNamed B.named
  have hlocks := B.notSynchronized
  have hr := B.returns
  have hD := hD0.self (sz := sz)
  have hl := lv_entry av (n := nL) (Nat.le_of_ble_eq_true hav)
  rw [lg_entry_eq]
  refine body p e s m _ below meth c (va_A w sz) _ _ ⟨B.exec, B.bytes, hml, hown, hts⟩ (name_of_methodNamed B.named B.method).1 hE hP hD hR hZ (fun q h => Or.inr (by rw [← hsz]; exact h)) hl ?_ ?_
  · intro u H locs cells slots pc ls hp hP' hD' hS hc hs hd
    refine W.widen hc hs ?_
    exact vz_ret (W.vret B.exec B.bytes hr (fun t ht hW => ⟨⟨u, rfl, hp, by rw [ht]; exact hP', hD'⟩, hS.F ht⟩) hS.2.2 hd)
  · intro q u H locs cells slots pc ls rest ce hp hP' hD' hS hc hs hce hcv hcl
    exact vz_out (fun x hx => (htab x hx).elim) hlocks hce hcv hcl (fun t ht hW => ⟨rfl, u, hp, ⟨by rw [ht]; exact hP', hD'⟩, hS.F ht⟩) hS.2.2 hc hs
theorem fz_qW {post : Option Nat → S → Prop} (hy : plainName y.cls = true) (hav : Nat.ble (lg_sl av).length nL = true) (hrt : (∃ n, rt = .object n) ∨ ∃ t, rt = .array t)
    (body : ∀ (p : Program) (e : Env) (s : State) (m : MethodId) (args : Array Value) (below : List Frame) (meth : Method) (c : Code) (A : Nat → Prop) (ls : Array Slot) (Q : State → Prop), CallFix p m c cc nL s args lw_all y.cls → meth.name = y.name → fx_K E s → va_P E.1 clA w s.heap → va_D A w → fx_R E A Rl s.heap → fz_Z ks A s s.heap → (∀ q, s.heap.size ≤ q → A q) → lv_has ls nL (lv_args 0 av) →
      (∀ (v : Option Nat) (u : S) {H : Heap} {locs : List Loc} {cells slots pc : Nat} {ls : Array Slot}, post v u → va_P E.1 clA (w' u) H → va_D A (w' u) → va_S A s.heap H locs → cells ≤ mc → slots ≤ ms → decode cc pc = .ok (.areturn, 1) → W p l e rm s m args below meth c H locs cells slots Q (F0 m pc ls [va_rf v])) →
      fz_Th p l e rm s m args below meth c A Q E EX wx px →
      W p l e rm s m args below meth c s.heap [] 0 0 Q (F0 m 0 ls [])) : fz_Mq l y cc nL rt rm mc ms E ks av w Rl w' post EX wx px := by
  intro sz
  refine vz_ofW (cc := cc) (maxL := nL) (ret := some rt) hy rfl ?_
  intro p e s m args below meth c s₁ B hml htab hv
  obtain ⟨rfl, hsz, hP, hE, hD0, hR, hZ⟩ := hv
  have hts := atoms_spec (ws := ws_ y cc nL (some rt)) B.pre
  have hts : ∀ w ∈ lw_all, w.before _ s = true := fun w h => hts w (List.mem_cons_of_mem _ h)
  have hown : s.vm.findClass y.cls = some m.cls := findClass_of_methodNamed B.named
  have hlocks := B.notSynchronized
  have hr := B.returns
  have hD := hD0.self (sz := sz)
  have hl := lv_entry av (n := nL) (Nat.le_of_ble_eq_true hav)
  rw [lg_entry_eq]
  refine body p e s m _ below meth c (va_A w sz) _ _ ⟨B.exec, B.bytes, hml, hown, hts⟩ (name_of_methodNamed B.named B.method).1 hE hP hD hR hZ (fun q h => Or.inr (by rw [← hsz]; exact h)) hl ?_ ?_
  · intro v u H locs cells slots pc ls hp hP' hD' hS hc hs hd
    refine W.widen hc hs ?_
    exact vz_ret (W.aret (v := va_rf v) B.exec B.bytes hr hrt (va_rf_or v) (fun t ht hW => ⟨⟨v, u, rfl, hp, by rw [ht]; exact hP', hD'⟩, hS.F ht⟩) hS.2.2 hd)
  · intro q u H locs cells slots pc ls rest ce hp hP' hD' hS hc hs hce hcv hcl
    exact vz_out (fun x hx => (htab x hx).elim) hlocks hce hcv hcl (fun t ht hW => ⟨rfl, u, hp, ⟨by rw [ht]; exact hP', hD'⟩, hS.F ht⟩) hS.2.2 hc hs
end FZ1
section FZ2
variable {p : Program} {l : Launch} {e : Env} {R : Room} {s : State} {m : MethodId} {args : Array Value} {below : List Frame} {meth : Method} {c : Code} {H : Heap} {locs : List Loc} {cells slots : Nat} {Q : State → Prop}
variable {own : String} {cc : ByteArray} {nL : Nat} {pc : Nat} {ls : Array Slot} {rest : List Value} {E : fx_En} {A : Nat → Prop} {ws : va_W}
variable {mc ms mx sx : Nat} {a : Array Value} {st0 : List Value} {wc : va_W} {S SX : Type} {w' : S → va_W} {EX : String} {wx : SX → va_W} {px : Nat → SX → Prop}
/-- what a caller owes where the callee has thrown -/
abbrev fz_Kx (p : Program) (l : Launch) (e : Env) (R : Room) (s : State) (m : MethodId) (args : Array Value) (below : List Frame) (meth : Method) (c : Code) (cells slots : Nat) (Q : State → Prop) (pc : Nat) (ls : Array Slot) (rest : List Value) (E : fx_En) (A : Nat → Prop) (ws : va_W) (H0 : Heap) (is : List Nat) (EX : String) {SX : Type} (wx : SX → va_W) (px : Nat → SX → Prop) : Prop :=
  ∀ (q : Nat) (u : SX) (H1 : Heap) (locs1 : List Loc) (ce : Cell), px q u → va_P E.1 clA (fx_put ws is (wx u)) H1 → va_D A (fx_put ws is (wx u)) → va_S A H0 H1 locs1 → H1[q]? = some ce → ce.vm = .none → s.vm.findClass EX = some ce.cls → vx_W p l e R s m args below meth c H1 locs1 cells slots Q (F0 m pc ls rest) q
theorem fz_ci {post : Int32 → S → Prop} (hr : vz_Run p l e R s m args below meth c H locs cells slots mc ms mx sx (F0 m pc ls st0) rest (va_Qi post (fx_B E (va_A wc H.size) w') (va_A wc H.size) a) (fz_X EX px (fx_B E (va_A wc H.size) wx) (va_A wc H.size)) (va_A wc H.size)) {H0 : Heap} (hP : va_P E.1 clA ws H) (hD : va_D A ws) (hS : va_S A H0 H locs) (hA : ∀ q, H0.size ≤ q → A q) (is : List Nat) (hn : va_nd is = true) (hC : is.map (fun i => ws[i]?) = wc.map some)
    (kx : fz_Kx p l e R s m args below meth c (cells + mx) (slots + sx) Q pc ls rest E A ws H0 is EX wx px)
    (kk : ∀ (r : Int32) (u : S) (H1 : Heap) (locs1 : List Loc), post r u → va_P E.1 clA (fx_put ws is (w' u)) H1 → va_D A (fx_put ws is (w' u)) → va_S A H0 H1 locs1 → W p l e R s m args below meth c H1 locs1 (cells + mc) (slots + ms) Q (F0 m (pc + 3) ls (.int r :: rest))) : W p l e R s m args below meth c H locs cells slots Q (F0 m pc ls st0) := by
  have hF := fx_free hD hS hA is hC
  intro T hT X
  rcases hr T hT X with ⟨v, st₀, t, T', L, h0, X', hL, e1, e2, ⟨⟨r, u, hv, hp, hb1, hb2⟩, hFr⟩, st⟩ | ⟨q, st₀, t, T', L, E9, ce, h0, X', hL, e1, e2, ⟨rfl, u, hp, ⟨hb1, hb2⟩, hFr⟩, hce, hcv, hcl, st⟩
  · cases hv
    obtain ⟨k1, k2, k3⟩ := vx_keep h0 e1 hS (fun q _ h => hF q h) hF hL hFr
    rw [← e1] at hb1
    obtain ⟨j1, j2⟩ := fx_join hP hD is hC hn k2 hF hb1 hb2
    obtain ⟨t2, a1, b1⟩ := kk r u T'.heap (locs ++ L) hp j1 j2 k3 T' rfl X'
    exact ⟨t2, st t2 a1, b1⟩
  · obtain ⟨k1, k2, k3⟩ := vx_keep h0 e1 hS (fun q _ h => hF q h) hF hL hFr
    rw [← e1] at hb1
    obtain ⟨j1, j2⟩ := fx_join hP hD is hC hn k2 hF hb1 hb2
    obtain ⟨t2, a1, b1⟩ := kx q u T'.heap (locs ++ L) ce hp j1 j2 k3 (by rw [e1]; exact hce) hcv hcl T' rfl X'
    exact ⟨t2, st.trans a1, b1⟩
theorem fz_cv {post : S → Prop} (hr : vz_Run p l e R s m args below meth c H locs cells slots mc ms mx sx (F0 m pc ls st0) rest (va_Qv post (fx_B E (va_A wc H.size) w') (va_A wc H.size) a) (fz_X EX px (fx_B E (va_A wc H.size) wx) (va_A wc H.size)) (va_A wc H.size)) {H0 : Heap} (hP : va_P E.1 clA ws H) (hD : va_D A ws) (hS : va_S A H0 H locs) (hA : ∀ q, H0.size ≤ q → A q) (is : List Nat) (hn : va_nd is = true) (hC : is.map (fun i => ws[i]?) = wc.map some)
    (kx : fz_Kx p l e R s m args below meth c (cells + mx) (slots + sx) Q pc ls rest E A ws H0 is EX wx px)
    (kk : ∀ (u : S) (H1 : Heap) (locs1 : List Loc), post u → va_P E.1 clA (fx_put ws is (w' u)) H1 → va_D A (fx_put ws is (w' u)) → va_S A H0 H1 locs1 → W p l e R s m args below meth c H1 locs1 (cells + mc) (slots + ms) Q (F0 m (pc + 3) ls rest)) : W p l e R s m args below meth c H locs cells slots Q (F0 m pc ls st0) := by
  have hF := fx_free hD hS hA is hC
  intro T hT X
  rcases hr T hT X with ⟨v, st₀, t, T', L, h0, X', hL, e1, e2, ⟨⟨u, hv, hp, hb1, hb2⟩, hFr⟩, st⟩ | ⟨q, st₀, t, T', L, E9, ce, h0, X', hL, e1, e2, ⟨rfl, u, hp, ⟨hb1, hb2⟩, hFr⟩, hce, hcv, hcl, st⟩
  · cases hv
    obtain ⟨k1, k2, k3⟩ := vx_keep h0 e1 hS (fun q _ h => hF q h) hF hL hFr
    rw [← e1] at hb1
    obtain ⟨j1, j2⟩ := fx_join hP hD is hC hn k2 hF hb1 hb2
    obtain ⟨t2, a1, b1⟩ := kk u T'.heap (locs ++ L) hp j1 j2 k3 T' rfl X'
    exact ⟨t2, st t2 a1, b1⟩
  · obtain ⟨k1, k2, k3⟩ := vx_keep h0 e1 hS (fun q _ h => hF q h) hF hL hFr
    rw [← e1] at hb1
    obtain ⟨j1, j2⟩ := fx_join hP hD is hC hn k2 hF hb1 hb2
    obtain ⟨t2, a1, b1⟩ := kx q u T'.heap (locs ++ L) ce hp j1 j2 k3 (by rw [e1]; exact hce) hcv hcl T' rfl X'
    exact ⟨t2, st.trans a1, b1⟩
theorem fz_cq {post : Option Nat → S → Prop} (hr : vz_Run p l e R s m args below meth c H locs cells slots mc ms mx sx (F0 m pc ls st0) rest (va_Qq post (fx_B E (va_A wc H.size) w') (va_A wc H.size) a) (fz_X EX px (fx_B E (va_A wc H.size) wx) (va_A wc H.size)) (va_A wc H.size)) {H0 : Heap} (hP : va_P E.1 clA ws H) (hD : va_D A ws) (hS : va_S A H0 H locs) (hA : ∀ q, H0.size ≤ q → A q) (is : List Nat) (hn : va_nd is = true) (hC : is.map (fun i => ws[i]?) = wc.map some)
    (kx : fz_Kx p l e R s m args below meth c (cells + mx) (slots + sx) Q pc ls rest E A ws H0 is EX wx px)
    (kk : ∀ (r : Option Nat) (u : S) (H1 : Heap) (locs1 : List Loc), post r u → va_P E.1 clA (fx_put ws is (w' u)) H1 → va_D A (fx_put ws is (w' u)) → va_S A H0 H1 locs1 → W p l e R s m args below meth c H1 locs1 (cells + mc) (slots + ms) Q (F0 m (pc + 3) ls (va_rf r :: rest))) : W p l e R s m args below meth c H locs cells slots Q (F0 m pc ls st0) := by
  have hF := fx_free hD hS hA is hC
  intro T hT X
  rcases hr T hT X with ⟨v, st₀, t, T', L, h0, X', hL, e1, e2, ⟨⟨r, u, hv, hp, hb1, hb2⟩, hFr⟩, st⟩ | ⟨q, st₀, t, T', L, E9, ce, h0, X', hL, e1, e2, ⟨rfl, u, hp, ⟨hb1, hb2⟩, hFr⟩, hce, hcv, hcl, st⟩
  · cases hv
    obtain ⟨k1, k2, k3⟩ := vx_keep h0 e1 hS (fun q _ h => hF q h) hF hL hFr
    rw [← e1] at hb1
    obtain ⟨j1, j2⟩ := fx_join hP hD is hC hn k2 hF hb1 hb2
    obtain ⟨t2, a1, b1⟩ := kk r u T'.heap (locs ++ L) hp j1 j2 k3 T' rfl X'
    exact ⟨t2, st t2 a1, b1⟩
  · obtain ⟨k1, k2, k3⟩ := vx_keep h0 e1 hS (fun q _ h => hF q h) hF hL hFr
    rw [← e1] at hb1
    obtain ⟨j1, j2⟩ := fx_join hP hD is hC hn k2 hF hb1 hb2
    obtain ⟨t2, a1, b1⟩ := kx q u T'.heap (locs ++ L) ce hp j1 j2 k3 (by rw [e1]; exact hce) hcv hcl T' rfl X'
    exact ⟨t2, st.trans a1, b1⟩
/-- 'throw': the object at place q0 -/
theorem fz_athrow (X : CallFix p m c cc nL s args lw_all own) (hE : fx_K E s) (hP : va_P E.1 clA ws H) (q0 : Nat) {q ci : Nat} {fs : List Value} (he : ws[q0]? = some (q, .inr (ci, fs))) {r : vw_C} (hc : clA[ci]? = some r) (hdg : decode cc pc = .ok (.athrow, 1))
    (kk : ∀ ce : Cell, H[q]? = some ce → ce.vm = .none → s.vm.findClass r.1 = some ce.cls → vx_W p l e R s m args below meth c H locs cells slots Q (F0 m pc ls rest) q) : W p l e R s m args below meth c H locs cells slots Q (F0 m pc ls (.ref q :: rest)) := by
  obtain ⟨r9, h1, cell, h2, h3, h4, -⟩ := hP q0 _ he
  cases h1.symm.trans hc
  obtain ⟨cell2, g1, -, g3⟩ := va_recv hE.1 hP hc he
  cases h2.symm.trans g1
  exact vx_athrow X.1 X.2.1 hdg (kk cell h2 h4 g3)
/-- a static of which only 'a reference or null' is known -/
theorem fz_getq (X : CallFix p m c cc nL s args lw_all own) (hS : va_S A s.heap H locs) {C n d : String} {idx : Nat} (hZ : vx_Zq C n d A s s.heap) (hl : Cond.fieldLink own idx C n d ∈ lw_all) (hdg : decode cc pc = .ok (.getstatic idx, 3))
    (kk : ∀ o : Option Nat, W p l e R s m args below meth c H locs cells slots Q (F0 m (pc + 3) ls (va_rf o :: rest))) : W p l e R s m args below meth c H locs cells slots Q (F0 m pc ls rest) := by
  rcases hZ.1 with h | ⟨t, h⟩
  · exact va_gets X.1 X.2.1 h hS X.2.2.2.1 (X.2.2.2.2 _ hl) (fun _ h => h) hdg (kk none)
  · exact va_gets X.1 X.2.1 h hS X.2.2.2.1 (X.2.2.2.2 _ hl) (fun _ h => h) hdg (kk (some t))
end FZ2
