/-! CALLS THAT LAND IN A DEFAULT METHOD, super calls that land further up -/
theorem df_pig : ∀ (n : Nat) (f : Nat → Nat), (∀ i, i ≤ n → f i < n) → ∃ i j, i < j ∧ j ≤ n ∧ f i = f j
  | 0, _, h => absurd (h 0 (Nat.le_refl _)) (Nat.not_lt_zero _)
  | n + 1, f, h => by
    by_cases hx : ∃ i, i ≤ n ∧ f i = f (n + 1)
    · obtain ⟨i, hi, e⟩ := hx
      exact ⟨i, n + 1, by omega, Nat.le_refl _, e⟩
    · have hne : ∀ i, i ≤ n → f i ≠ f (n + 1) := fun i hi e => hx ⟨i, hi, e⟩
      have h2 := h (n + 1) (Nat.le_refl _)
      obtain ⟨i, j, h1, h3, h4⟩ := df_pig n (fun i => if f i < f (n + 1) then f i else f i - 1) (fun i hi => by
        have h1 := h i (by omega)
        have h3 := hne i hi
        show (if f i < f (n + 1) then f i else f i - 1) < n
        split <;> omega)
      refine ⟨i, j, h1, by omega, ?_⟩
      have a1 := hne i (by omega)
      have a2 := hne j h3
      have h5 : (if f i < f (n + 1) then f i else f i - 1) = (if f j < f (n + 1) then f j else f j - 1) := h4
      split at h5 <;> split at h5 <;> omega
def df_up (vm : Vm) : Nat → ClassId → Option ClassId
  | 0, c => some c
  | k + 1, c => (vm.classes[c]?.bind (·.super)).bind (df_up vm k)
theorem df_up_add (vm : Vm) (d : Nat) : ∀ (i : Nat) (c : ClassId), df_up vm (i + d) c = (df_up vm i c).bind (df_up vm d)
  | 0, c => by rw [Nat.zero_add]; rfl
  | i + 1, c => by
    rw [show i + 1 + d = (i + d) + 1 by omega]
    show (vm.classes[c]?.bind (·.super)).bind (df_up vm (i + d)) = ((vm.classes[c]?.bind (·.super)).bind (df_up vm i)).bind (df_up vm d)
    cases (vm.classes[c]?.bind (·.super)) with
    | none => rfl
    | some q => exact df_up_add vm d i q
theorem df_none {vm : Vm} {name desc : String} : ∀ (n : Nat) (c : ClassId), lookupInSuperclasses vm name desc n c = none → ∀ (k : Nat), k < n → ∀ (q : ClassId) (kq : Class), df_up vm k c = some q → vm.classes[q]? = some kq → kq.findMethod name desc = none
  | 0, _, _, k, hk, _, _, _, _ => absurd hk (Nat.not_lt_zero _)
  | n + 1, c, h, k, hk, q, kq, hu, hq => by
    unfold lookupInSuperclasses at h
    cases k with
    | zero =>
      have e : c = q := Option.some.inj hu
      subst e
      simp only [hq, Option.bind_eq_bind, Option.bind_some] at h
      cases hf : kq.findMethod name desc with
      | none => rfl
      | some i => simp [hf] at h
    | succ k =>
      have hu' : (vm.classes[c]?.bind (·.super)).bind (df_up vm k) = some q := hu
      cases hc : vm.classes[c]? with
      | none => simp [hc] at hu'
      | some kc =>
        cases hs : kc.super with
        | none => simp [hc, hs] at hu'
        | some t =>
          simp only [hc, hs, Option.bind_some] at hu'
          simp only [hc, Option.bind_eq_bind, Option.bind_some] at h
          cases hf : kc.findMethod name desc with
          | some i => simp [hf] at h
          | none =>
            simp only [hf, hs, Option.bind_some] at h
            exact df_none n t h k (by omega) q kq hu' hq
theorem df_mem {vm : Vm} {p : ClassId} : ∀ (n : Nat) (c : ClassId), p ∈ vm.superclassesAux n c → ∃ k, k < n ∧ df_up vm (k + 1) c = some p
  | 0, c, h => by simp [Vm.superclassesAux] at h
  | n + 1, c, h => by
    cases hc : vm.classes[c]? with
    | none => simp [Vm.superclassesAux, hc] at h
    | some kc =>
      cases hs : kc.super with
      | none => simp [Vm.superclassesAux, hc, hs] at h
      | some t =>
        simp only [Vm.superclassesAux, hc, hs, Option.bind_some, List.mem_cons] at h
        rcases h with h | h
        · subst h
          exact ⟨0, by omega, by show (vm.classes[c]?.bind (·.super)).bind (df_up vm 0) = _; simp [hc, hs, df_up]⟩
        · obtain ⟨k, hk, hu⟩ := df_mem n t h
          exact ⟨k + 1, by omega, by show (vm.classes[c]?.bind (·.super)).bind (df_up vm (k + 1)) = _; simp only [hc, hs, Option.bind_some]; exact hu⟩
theorem df_val {vm : Vm} {c p : ClassId} {k i : Nat} (h : df_up vm (k + 1) c = some p) (hi : i ≤ k) : ∃ q, df_up vm i c = some q ∧ q < vm.classes.size := by
  rw [show k + 1 = i + ((k - i) + 1) by omega, df_up_add] at h
  cases hu : df_up vm i c with
  | none => rw [hu] at h; simp at h
  | some q =>
    rw [hu] at h
    have h1 : (vm.classes[q]?.bind (·.super)).bind (df_up vm (k - i)) = some p := h
    cases hq : vm.classes[q]? with
    | none => simp [hq] at h1
    | some kq => exact ⟨q, rfl, (Array.getElem?_eq_some_iff.mp hq).1⟩
theorem df_all {vm : Vm} {name desc : String} {c : ClassId} (h : lookupInSuperclasses vm name desc (vm.classes.size + 1) c = none) : ∀ p ∈ vm.superclasses c, ∀ kp, vm.classes[p]? = some kp → kp.findMethod name desc = none := by
  intro p hp kp hkp
  obtain ⟨k, hk, hu⟩ := df_mem _ c hp
  by_cases e : k + 1 < vm.classes.size + 1
  · exact df_none _ c h (k + 1) e p kp hu hkp
  · have e2 : k = vm.classes.size := by omega
    subst e2
    have hv : ∀ i, i ≤ vm.classes.size → (df_up vm i c).getD 0 < vm.classes.size := fun i hi => by
      obtain ⟨q, h1, h2⟩ := df_val hu hi
      rw [h1]; exact h2
    obtain ⟨i, j, h1, h2, h3⟩ := df_pig _ (fun i => (df_up vm i c).getD 0) hv
    obtain ⟨q1, g1, -⟩ := df_val hu (show i ≤ vm.classes.size by omega)
    obtain ⟨q2, g2, -⟩ := df_val hu h2
    have h4 : q1 = q2 := by
      have : (df_up vm i c).getD 0 = (df_up vm j c).getD 0 := h3
      rw [g1, g2] at this
      exact this
    subst h4
    refine df_none _ c h (i + (vm.classes.size + 1 - j)) (by omega) p kp ?_ hkp
    rw [df_up_add, g1, ← g2, ← df_up_add, show j + (vm.classes.size + 1 - j) = vm.classes.size + 1 by omega]
    exact hu
/-- the super call's look-up, where resolution lands in a default method -/
theorem df_sp {vm : Vm} {c : ClassId} {k : Class} {name desc : String} {r0 : MethodId} {rm : Method} (hk : vm.classes[c]? = some k) (hni : k.isInterface = false) (hup : vm.lookupUp c name desc = some r0) (hrm : vm.method? r0 = some rm) (hst : rm.isStatic = false) (hpr : rm.isPrivate = false) (hn : rm.name = name) (hd : rm.desc = desc)
    (hi : (vm.classes[r0.cls]?).any (·.isInterface) = true) (hsel : selectMethod {} vm c r0 = .method r0) : lookupSpecial vm c name desc = .method r0 := by
  cases hl : lookupInSuperclasses vm name desc (vm.classes.size + 1) c with
  | some x => exact lookupSpecial_of_lookupUp hk hni hup (by rw [hl]; rfl) hrm hst
  | none =>
    have hown : ((vm.classes[c]?.bind (·.findMethod name desc)).map fun i => (⟨c, i⟩ : MethodId)) = none := by
      rw [hk]
      have := df_none _ c hl 0 (by omega) c k rfl hk
      simp [this]
    have habove : superclassMethods vm c name desc = [] := by
      unfold superclassMethods
      rw [List.filterMap_eq_nil_iff]
      intro p hp
      cases hq : vm.classes[p]? with
      | none => rfl
      | some kp =>
        have := df_all hl p hp kp hq
        simp [this]
    have hsc : selectInSuperclasses vm r0 name desc (vm.classes.size + 1) c = none := by
      have key : ∀ (n : Nat) (c : ClassId), lookupInSuperclasses vm name desc n c = none → selectInSuperclasses vm r0 name desc n c = none := by
        intro n
        induction n with
        | zero => intro c _; rfl
        | succ n ih =>
          intro c h
          unfold lookupInSuperclasses at h
          unfold selectInSuperclasses
          cases hc : vm.classes[c]? with
          | none => simp [hc]
          | some kc =>
            simp only [hc, Option.bind_eq_bind, Option.bind_some] at h ⊢
            cases hf : kc.findMethod name desc with
            | some i => simp [hf] at h
            | none =>
              simp only [hf] at h
              cases hs : kc.super with
              | none => simp [hs]
              | some t =>
                simp only [hs, Option.bind_some] at h
                simp [ih t h]
      exact key _ c hl
    unfold selectMethod at hsel
    rw [hrm] at hsel
    simp only [hpr, hn, hd, hi, hsc, Bool.false_eq_true, if_false, Bool.not_true, Bool.and_false] at hsel
    unfold lookupSpecial
    rw [hown, habove]
    simp only [Option.toList_none, List.filter_nil, List.append_nil, List.find?_nil]
    split at hsel
    · cases hsel
    · exact hsel
section DF
variable {p : Program} {l : Launch} {e : Env} {R : Room} {s : State} {m : MethodId} {args : Array Value} {below : List Frame} {meth : Method} {c : Code}
theorem df_priv {C : String} {x y : MethodName} {r : MethodId} {rm : Method} (h : (Cond.landsInDefault C x y).before args s = true) (hf : s.methodFound? x.cls x.name x.desc = some r) (hrm : s.vm.method? r = some rm) : rm.isPrivate = false := by
  simp only [Cond.before, Cond.holds, Cond.value] at h
  cases hc : s.vm.findClass C with
  | none => simp [hc] at h
  | some c9 =>
    cases hm : s.methodNamed? y with
    | none => simp [hc, hf, hm] at h
    | some m9 =>
      simp only [hc, hf, hm, hrm, Option.map_some, beq_iff_eq, Option.some.injEq] at h
      split at h
      · simp only [Bool.and_eq_true, decide_eq_true_eq, Bool.not_eq_true'] at h
        exact h.1.1.2
      · cases h
/-- super.m(..), where the look-up from the superclass on is known -/
theorem df_special {T : State} {locs : List Loc} {cells slots : Nat} (X : Stand p l e R s m args below meth c T locs cells slots) (hexec : p.tables.exec = Jvm.exec) {own owner : String} {index : Nat} {x : MethodName} (hown : s.vm.findClass own = some m.cls) (hlink : (Cond.methodLink own index x).before args s = true)
    (hsame : (Cond.sameMethod x.cls owner x.name x.desc).before args s = true) {r0 : MethodId} {r : Method} (hn : s.methodNamed? ⟨owner, x.name, x.desc⟩ = some r0) (hrm : s.vm.method? r0 = some r) (hstatic : r.isStatic = false) (habs : r.isAbstract = false) (hnoinit : x.name ≠ "<init>")
    {dk : Class} {cn : ClassId} (hd : s.vm.classes[m.cls]? = some dk) (hnid : dk.isInterface = false) (hcn : s.vm.findClass x.cls = some cn) (hsuper : dk.super = some cn) (hfound : ∀ ck : Class, s.vm.classes[cn]? = some ck → ck.isInterface = false → (∀ z, signaturePolymorphic ck z = false) → lookupSpecial s.vm cn x.name x.desc = .method r0)
    {a : Addr} {cell : Cell} {kcell : Class} (hcell : T.heap[a]? = some cell) (hobj : ∀ c, cell.vm ≠ .statics c) (hkcell : s.vm.classes[cell.cls]? = some kcell)
    {g : JFrame} (hg : g.method = m) {argsL rest : List Value} (hlen : argsL.length = r.sig.parameters.length) (hstack : g.stack = argsL.reverse ++ .ref a :: rest) (hdg : decode c.code g.pc = .ok (.invokespecial index, 3)) :
    ∃ vm', Stand p l e R s m args below meth c (T.setVm vm') locs cells slots ∧
      ∀ target, Steps p.tables e below (doInvoke e ((T.setVm vm').setTop { g with stack := rest }) [] r0 (.ref a :: argsL).toArray).1 target → Steps p.tables e below (T.setTop g) target := by
  have hpl : e.platform.magicAccessors = ({} : Platform).magicAccessors := by rw [X.admits.platform]
  obtain ⟨cn', ck, r1, hcn', hck, hni, hf, hn1⟩ := Cond.sameMethod_found hsame
  cases hn.symm.trans hn1
  cases hcn.symm.trans hcn'
  obtain ⟨ci, hl, hright⟩ := Cond.methodLink_specUp hown hcn hck hni hf hlink e.platform hpl (by rw [X.admits.platform])
  obtain ⟨kr, hkr, -⟩ := className_of_methodNamed hn
  obtain ⟨hrn, hrd⟩ := name_of_methodNamed hn hrm
  obtain ⟨dk₀, cfile, nt, _, _, ck₀, _, _, hd₀, hcf, hcp, -, -, -, hc₀, -, hpoly, -⟩ := hl.here
  cases hd.symm.trans hd₀
  cases hck.symm.trans hc₀
  subst hg
  obtain ⟨vm', hW', st⟩ := Steps.invokeSuperColdArgs (tb := p.tables) (e := e) (s₀ := s) (U := T) (f := g) (args := argsL) (rest := rest) (a := a) (cell := cell) (m := r0) X.here hexec hdg X.warmed hl hright hd hcf hcp hrm hck
    (by rw [hrn]; simp [hnoinit]) hstatic (by rw [hrn, hrd, hsuper]; simpa using hfound ck hck hni hpoly) hnid hkr habs hlen hstack hcell hobj hkcell
  exact ⟨vm', X.noted hW', st⟩
/-- what the look-up says, where the default is meant -/
theorem df_fD {x y : MethodName} (hy : y.name = x.name ∧ y.desc = x.desc) (hsame : (Cond.sameMethod x.cls y.cls x.name x.desc).before args s = true) (hld : (Cond.landsInDefault x.cls x y).before args s = true) :
    ∀ (cn : ClassId) (ck : Class) (r0 : MethodId) (r : Method), s.vm.findClass x.cls = some cn → s.vm.classes[cn]? = some ck → ck.isInterface = false → (∀ z, signaturePolymorphic ck z = false) → s.methodNamed? y = some r0 → s.vm.method? r0 = some r → r.isStatic = false → lookupSpecial s.vm cn x.name x.desc = .method r0 := by
  intro cn ck r0 r hcn hck hni hpoly hn hrm hstatic
  obtain ⟨cn', ck', r1, hcn', hck', -, hf, hn1⟩ := Cond.sameMethod_found hsame
  have hn2 : s.methodNamed? ⟨y.cls, x.name, x.desc⟩ = some r0 := by rw [← hy.1, ← hy.2]; exact hn
  cases hn2.symm.trans hn1
  cases hcn.symm.trans hcn'
  obtain ⟨c2, r2, m2, rm2, q1, q2, q3, q4, q5, ⟨mk, hmk, hmi⟩, -, -⟩ := Cond.landsInDefault_spec hld
  cases hcn.symm.trans q1
  cases hf.symm.trans q2
  cases hn.symm.trans q3
  cases hrm.symm.trans q4
  obtain ⟨hrn, hrd⟩ := name_of_methodNamed hn hrm
  have hup : s.vm.lookupUp cn x.name x.desc = some r0 := ((State.methodFound?_class hcn hck hni hpoly r0).mp hf).1
  exact df_sp hck hni hup hrm hstatic (df_priv hld hf hrm) (hrn.trans hy.1) (hrd.trans hy.2) (by rw [hmk]; exact hmi) q5
/-- .. where the superclass's own superclass has it -/
theorem df_fG {x y : MethodName} (hy : y.name = x.name ∧ y.desc = x.desc) (hsame : (Cond.sameMethod x.cls y.cls x.name x.desc).before args s = true) (hsup : (Cond.superclass x.cls y.cls).before args s = true) :
    ∀ (cn : ClassId) (ck : Class) (r0 : MethodId) (r : Method), s.vm.findClass x.cls = some cn → s.vm.classes[cn]? = some ck → ck.isInterface = false → (∀ z, signaturePolymorphic ck z = false) → s.methodNamed? y = some r0 → s.vm.method? r0 = some r → r.isStatic = false → lookupSpecial s.vm cn x.name x.desc = .method r0 := by
  intro cn ck r0 r hcn hck hni hpoly hn hrm hstatic
  obtain ⟨cn', ck', r1, hcn', hck', -, hf, hn1⟩ := Cond.sameMethod_found hsame
  have hn2 : s.methodNamed? ⟨y.cls, x.name, x.desc⟩ = some r0 := by rw [← hy.1, ← hy.2]; exact hn
  cases hn2.symm.trans hn1
  cases hcn.symm.trans hcn'
  have hup : s.vm.lookupUp cn x.name x.desc = some r0 := ((State.methodFound?_class hcn hck hni hpoly r0).mp hf).1
  obtain ⟨ps, dk, kp, hps, hdk, hkp, hsuper, -, -, -⟩ := Cond.superclass_spec hcn hsup
  cases hck.symm.trans hdk
  have hpm : ps = r0.cls := Option.some.inj (hps.symm.trans (findClass_of_methodNamed hn))
  obtain ⟨kr, hkr, -⟩ := className_of_methodNamed hn
  have hdecl : kr.findMethod x.name x.desc = some r0.idx := by
    have hc := findClass_of_methodNamed hn
    have h' := hn
    simp only [State.methodNamed?, hc, hkr, Option.bind_eq_bind, Option.bind_some, Option.bind_eq_some_iff, Option.pure_def, Option.some.injEq] at h'
    obtain ⟨i, hi, hmi⟩ := h'
    rw [← hmi, ← hy.1, ← hy.2]; exact hi
  have hsz : ∃ z, s.vm.classes.size = z + 1 := ⟨s.vm.classes.size - 1, by have := (Array.getElem?_eq_some_iff.mp hck).1; omega⟩
  obtain ⟨z, hz⟩ := hsz
  refine lookupSpecial_of_declared hck hni hup hkr hdecl ?_ hrm hstatic
  unfold Vm.isSubclass
  rw [hz]
  unfold Vm.isSubclassAux
  simp only [hck, hsuper, hpm, Bool.or_eq_true]
  exact Or.inr (by unfold Vm.isSubclassAux; simp)
variable {H : Heap} {locs : List Loc} {cells slots : Nat}
theorem df_runS {x y : MethodName} {bytes cc : ByteArray} {maxL nL mc ms n index : Nat} {ret : Option FieldType} {ws : List Cond} {rm : Room} {Pc : Array Value → State → Prop} {Qc : Array Value → State → Outcome → State → Prop} {free : Addr → Prop} {own C : String} {cC : ClassId} {b : Addr} {As rest : List Value} {g : JFrame}
    (hat : ClassAt s C cC) (S : CallFix p m c cc nL s args lw_all own) (hM : Met l y ws rm Pc Qc mc ms free) (hk : rm.cells = mc ∧ rm.slots = ms ∧ rm.frames + 1 ≤ R.frames ∧ 8 + (maxL + 11) + rm.locals ≤ R.locals) (hG : GoodIn lw_all ws) (hc : Cond.code y bytes maxL ret ∈ ws)
    (hini : Cond.initialized y.cls ∈ lw_all) (hinst : Cond.instanceMethod y ∈ lw_all) (hsup : Cond.superclass own x.cls ∈ lw_all) (hy : y.name = x.name ∧ y.desc = x.desc) (hno : x.name ≠ "<init>") (hlen : (parseMethodDescriptor y.desc).map (fun d => d.parameters.length) = some n)
    (hlink : (Cond.methodLink own index x).before args s = true) (hsame : (Cond.sameMethod x.cls y.cls x.name x.desc).before args s = true)
    (hfound : ∀ (cn : ClassId) (ck : Class) (r0 : MethodId) (r : Method), s.vm.findClass x.cls = some cn → s.vm.classes[cn]? = some ck → ck.isInterface = false → (∀ z, signaturePolymorphic ck z = false) → s.methodNamed? y = some r0 → s.vm.method? r0 = some r → r.isStatic = false → lookupSpecial s.vm cn x.name x.desc = .method r0)
    (hp : PreV s H C b Pc As) (hg : g.method = m) (hn : As.length = n) (hsize : g.locals.size = nL) (hstack : g.stack = As.reverse ++ .ref b :: rest) (hW : 2 * g.monitorRoom + (rest.map fun v => v.category).sum ≤ 8) (hdg : decode cc g.pc = .ok (.invokespecial index, 3)) (hf : cells + mc ≤ R.cells ∧ slots + ms ≤ R.slots) :
    va_Run p l e R s m args below meth c H locs cells slots mc ms g rest (Qc (Value.ref b :: As).toArray) free := by
  obtain ⟨hx, hb, hml, ho, ht⟩ := S
  have hK : Back l R p e below s args y 3 8 (PreOf R mc ms Pc) (PostOf Qc mc ms free) := back_of (bytes := bytes) (maxL := maxL) (ret := ret) hM hp.1 hk.1 hk.2.1 hk.2.2.1 hk.2.2.2 (pay_in ht hG) hc (fun a' U hW => word_at hW (Or.inl (by first | rfl | simp [Cond.onTables, Cond.keeps, Cond.steady])) (ht _ hini))
  obtain ⟨-, ⟨cellB, hcB, hoB, hclB⟩, hPc⟩ := hp
  obtain ⟨hfc, kB, hkB, -⟩ := hat
  cases hfc.symm.trans hclB
  obtain ⟨mk, methM, hnamed, hmethM, hstM, habM⟩ := Cond.instanceMethod_spec (ht _ hinst)
  obtain ⟨methM', cM, hmethM', -, -, -, -, -, -, hsigM⟩ := Cond.code_spec hnamed (ht _ (hG _ hc).1)
  cases hmethM.symm.trans hmethM'
  obtain ⟨ps, dk, kp, hps, hdk, hkp, hsuper, -, -, hnid⟩ := Cond.superclass_spec ho (ht _ hsup)
  have hn' : s.methodNamed? ⟨y.cls, x.name, x.desc⟩ = some mk := by rw [← hy.1, ← hy.2]; exact hnamed
  have hlen' : As.length = methM.sig.parameters.length := by
    rw [hsigM] at hlen
    exact hn.trans (Option.some.inj hlen).symm
  intro T hT X
  obtain ⟨vm₁, X₁, hstep₁⟩ := df_special X hx ho hlink hsame hn' hmethM hstM habM hno hdk hnid hps hsuper (fun ck a1 a2 a3 => hfound ps ck mk methM hps a1 a2 a3 hnamed hmethM hstM) (a := b) (cell := cellB) (by rw [hT]; exact hcB)
    (fun z h => by rw [h] at hoB; cases hoB) hkB (g := g) hg (argsL := As) (rest := rest) hlen' hstack (by rw [hb]; exact hdg)
  obtain ⟨v, ⟨U', l2, c2, s2⟩, X', ⟨g', mk2, t, L, e1, e2, hq, h1, hL, h2, h3⟩, hsteps⟩ := hK m meth c ⟨T.setVm vm₁, locs, cells, slots⟩ { g with stack := rest } (.invokespecial index) mk (Value.ref b :: As).toArray X₁ hg (hsize.trans hml.symm) (by rw [hb]; exact hdg) hW (X₁.named hnamed) ⟨hf.1, hf.2, hPc (T.setVm vm₁) hT X₁.warmed⟩
  dsimp only [Pt.U, Pt.locs, Pt.cells, Pt.slots] at X' e1 e2 h1 h2 h3 hsteps
  subst h1; subst h2; subst h3
  exact ⟨v, (T.setVm vm₁).calling g' mk2 (Value.ref b :: As).toArray, t, U', L, hT, X', hL, e1, e2, hq, fun target h => hstep₁ _ (by rw [doInvoke_state]; exact hsteps.trans h)⟩
/-- a virtual call that lands in the default method -/
theorem df_runV {x y : MethodName} {bytes cc : ByteArray} {maxL nL mc ms n index : Nat} {ret : Option FieldType} {ws : List Cond} {rm : Room} {Pc : Array Value → State → Prop} {Qc : Array Value → State → Outcome → State → Prop} {free : Addr → Prop} {own C : String} {b : Addr} {As rest : List Value} {g : JFrame}
    (S : CallFix p m c cc nL s args lw_all own) (hM : Met l y ws rm Pc Qc mc ms free) (hk : rm.cells = mc ∧ rm.slots = ms ∧ rm.frames + 1 ≤ R.frames ∧ 8 + (maxL + 11) + rm.locals ≤ R.locals) (hG : GoodIn lw_all ws) (hc : Cond.code y bytes maxL ret ∈ ws)
    (hini : Cond.initialized y.cls ∈ lw_all) (hinst : Cond.instanceMethod y ∈ lw_all) (hy : y.name = x.name ∧ y.desc = x.desc) (hlen : (parseMethodDescriptor y.desc).map (fun d => d.parameters.length) = some n) (hMH : y.cls ≠ "java/lang/invoke/MethodHandle" ∧ y.cls ≠ "java/lang/invoke/VarHandle")
    (hlink : (Cond.methodLink own index x).before args s = true) (hsame : (Cond.sameMethod x.cls y.cls x.name x.desc).before args s = true) (hdecl : (Cond.declares ⟨y.cls, x.name, x.desc⟩).before args s = true) (hld : (Cond.landsInDefault C x y).before args s = true)
    (hp : PreV s H C b Pc As) (hg : g.method = m) (hn : As.length = n) (hsize : g.locals.size = nL) (hstack : g.stack = As.reverse ++ .ref b :: rest) (hW : 2 * g.monitorRoom + (rest.map fun v => v.category).sum ≤ 8) (hdg : decode cc g.pc = .ok (.invokevirtual index, 3)) (hf : cells + mc ≤ R.cells ∧ slots + ms ≤ R.slots) :
    va_Run p l e R s m args below meth c H locs cells slots mc ms g rest (Qc (Value.ref b :: As).toArray) free := by
  obtain ⟨hx, hb, hml, ho, ht⟩ := S
  have hK : Back l R p e below s args y 3 8 (PreOf R mc ms Pc) (PostOf Qc mc ms free) := back_of (bytes := bytes) (maxL := maxL) (ret := ret) hM hp.1 hk.1 hk.2.1 hk.2.2.1 hk.2.2.2 (pay_in ht hG) hc (fun a' U hW => word_at hW (Or.inl (by first | rfl | simp [Cond.onTables, Cond.keeps, Cond.steady])) (ht _ hini))
  obtain ⟨-, ⟨cellB, hcB, hoB, hclB⟩, hPc⟩ := hp
  intro T hT X
  obtain ⟨v, vm₁, ⟨U', l2, c2, s2⟩, hW₁, X', ⟨g', mk, t, L, e1, e2, hq, h1, hL, h2, h3⟩, st⟩ := X.virtualBackUpD hx ho hlink hsame hdecl hMH hld (ht _ hinst) hK hclB ⟨cellB, by rw [hT]; exact hcB, rfl, hoB⟩ hg (hsize.trans hml.symm) (Steps.refl _) (argsL := As) (rest := rest)
    (fun sig h => by rw [hy.2, h] at hlen; exact hn.trans (Option.some.inj hlen).symm) hstack hW (by rw [hb]; exact hdg) (fun vm₁ hW₁ => ⟨hf.1, hf.2, hPc (T.setVm vm₁) hT hW₁⟩)
  dsimp only [Pt.U, Pt.locs, Pt.cells, Pt.slots] at X' e1 e2 h1 h2 h3 st
  subst h1; subst h2; subst h3
  exact ⟨v, (T.setVm vm₁).calling g' mk (Value.ref b :: As).toArray, t, U', L, hT, X', hL, e1, e2, hq, fun target h => st.trans h⟩
/-- a virtual call of a method that overrides the default one -/
theorem df_runO {x y : MethodName} {owner : String} {bytes cc : ByteArray} {maxL nL mc ms n index : Nat} {ret : Option FieldType} {ws : List Cond} {rm : Room} {Pc : Array Value → State → Prop} {Qc : Array Value → State → Outcome → State → Prop} {free : Addr → Prop} {own C : String} {b : Addr} {As rest : List Value} {g : JFrame}
    (S : CallFix p m c cc nL s args lw_all own) (hM : Met l y ws rm Pc Qc mc ms free) (hk : rm.cells = mc ∧ rm.slots = ms ∧ rm.frames + 1 ≤ R.frames ∧ 8 + (maxL + 11) + rm.locals ≤ R.locals) (hG : GoodIn lw_all ws) (hc : Cond.code y bytes maxL ret ∈ ws)
    (hini : Cond.initialized y.cls ∈ lw_all) (hinst : Cond.instanceMethod y ∈ lw_all) (hlen : (parseMethodDescriptor x.desc).map (fun d => d.parameters.length) = some n) (hMH : owner ≠ "java/lang/invoke/MethodHandle" ∧ owner ≠ "java/lang/invoke/VarHandle")
    (hlink : (Cond.methodLink own index x).before args s = true) (hsame : (Cond.sameMethod x.cls owner x.name x.desc).before args s = true) (hdecl : va_Decl s ⟨owner, x.name, x.desc⟩) (hsel : Cond.selects C ⟨owner, x.name, x.desc⟩ y ∈ lw_all)
    (hp : PreV s H C b Pc As) (hg : g.method = m) (hn : As.length = n) (hsize : g.locals.size = nL) (hstack : g.stack = As.reverse ++ .ref b :: rest) (hW : 2 * g.monitorRoom + (rest.map fun v => v.category).sum ≤ 8) (hdg : decode cc g.pc = .ok (.invokevirtual index, 3)) (hf : cells + mc ≤ R.cells ∧ slots + ms ≤ R.slots) :
    va_Run p l e R s m args below meth c H locs cells slots mc ms g rest (Qc (Value.ref b :: As).toArray) free := by
  obtain ⟨hx, hb, hml, ho, ht⟩ := S
  have hK : Back l R p e below s args y 3 8 (PreOf R mc ms Pc) (PostOf Qc mc ms free) := back_of (bytes := bytes) (maxL := maxL) (ret := ret) hM hp.1 hk.1 hk.2.1 hk.2.2.1 hk.2.2.2 (pay_in ht hG) hc (fun a' U hW => word_at hW (Or.inl (by first | rfl | simp [Cond.onTables, Cond.keeps, Cond.steady])) (ht _ hini))
  obtain ⟨-, ⟨cellB, hcB, hoB, hclB⟩, hPc⟩ := hp
  obtain ⟨r0, r, hn0, hrm, hstR, hsigR⟩ := hdecl
  obtain ⟨mk, methM, hnamed, hmethM, -, habM⟩ := Cond.instanceMethod_spec (ht _ hinst)
  obtain ⟨c2, r2, m2, q1, q2, q3, q4, kP, hkP, hkPi⟩ := Cond.selects_spec (ht _ hsel)
  cases hclB.symm.trans q1
  cases (State.methodFound?_of_named hn0 hMH).symm.trans q2
  cases hnamed.symm.trans q3
  have hlen' : As.length = r.sig.parameters.length := by
    rw [hsigR] at hlen
    exact hn.trans (Option.some.inj hlen).symm
  intro T hT X
  have hselP : selectMethod e.platform s.vm cellB.cls r0 = .method mk := by rw [Launch.admits_selectMethod X.admits]; exact q4
  obtain ⟨vm₁, X₁, hstep₁⟩ := X.invokevirtualUp hx ho hlink hsame hMH hn0 hrm hstR (a := b) (cell := cellB) (by rw [hT]; exact hcB)
    (fun z h => by rw [h] at hoB; cases hoB) hselP hmethM habM hkP hkPi (g := g) hg (argsL := As) (rest := rest) hlen' hstack (by rw [hb]; exact hdg)
  obtain ⟨v, ⟨U', l2, c3, s2⟩, X', ⟨g', mk2, t, L, e1, e2, hq, h1, hL, h2, h3⟩, hsteps⟩ := hK m meth c ⟨T.setVm vm₁, locs, cells, slots⟩ { g with stack := rest } (.invokevirtual index) mk (Value.ref b :: As).toArray X₁ hg (hsize.trans hml.symm) (by rw [hb]; exact hdg) hW (X₁.named hnamed) ⟨hf.1, hf.2, hPc (T.setVm vm₁) hT X₁.warmed⟩
  dsimp only [Pt.U, Pt.locs, Pt.cells, Pt.slots] at X' e1 e2 h1 h2 h3 hsteps
  subst h1; subst h2; subst h3
  exact ⟨v, (T.setVm vm₁).calling g' mk2 (Value.ref b :: As).toArray, t, U', L, hT, X', hL, e1, e2, hq, fun target h => hstep₁ _ fun acts => by rw [doInvoke_state]; exact hsteps.trans h⟩
end DF
/-- contracts over the JDK's constants that return an int -/
def fy_Mi (l : Launch) (y : MethodName) (cc : ByteArray) (nL : Nat) (rt : FieldType) (rm : Room) (E : fx_En) (ks : fz_Ks) (av : List Value) (w Rl : va_W) {S : Type} (w' : S → va_W) (post : Int32 → S → Prop) : Prop :=
  ∀ sz, Met l y (ws_ y cc nL (some rt)) rm (fz_P E ks av w Rl sz) (va_Qi post (fx_B E (va_A w sz) w') (va_A w sz)) rm.cells rm.slots (va_A w sz)
theorem fy_iW {l : Launch} {y : MethodName} {cc : ByteArray} {nL : Nat} {rt : FieldType} {rm : Room} {E : fx_En} {ks : fz_Ks} {av : List Value} {w Rl : va_W} {S : Type} {w' : S → va_W} {post : Int32 → S → Prop} (hy : plainName y.cls = true) (hav : Nat.ble (lg_sl av).length nL = true)
    (body : ∀ (p : Program) (e : Env) (s : State) (m : MethodId) (args : Array Value) (below : List Frame) (meth : Method) (c : Code) (A : Nat → Prop) (ls : Array Slot) (Q : State → Prop), CallFix p m c cc nL s args lw_all y.cls → fx_K E s → va_P E.1 clA w s.heap → va_D A w → fx_R E A Rl s.heap → fz_Z ks A s s.heap → (∀ q, s.heap.size ≤ q → A q) → lv_has ls nL (lv_args 0 av) →
      (∀ (v : Int32) (u : S) {H : Heap} {locs : List Loc} {cells slots pc : Nat} {ls : Array Slot}, post v u → narrow rt (.int v) = .int v → va_P E.1 clA (w' u) H → va_D A (w' u) → va_S A s.heap H locs → cells ≤ rm.cells → slots ≤ rm.slots → decode cc pc = .ok (.ireturn, 1) → W p l e rm s m args below meth c H locs cells slots Q (F0 m pc ls [.int v])) →
      W p l e rm s m args below meth c s.heap [] 0 0 Q (F0 m 0 ls [])) : fy_Mi l y cc nL rt rm E ks av w Rl w' post := by
  intro sz
  refine Met.ofW (cc := cc) (maxL := nL) (ret := some rt) hy rfl ?_
  intro p e s m args below meth c s₁ B hml hv
  obtain ⟨rfl, hsz, hP, hE, hD0, hR, hZ⟩ := hv
  have hts := atoms_spec (ws := ws_ y cc nL (some rt)) B.pre
  have hts : ∀ w ∈ lw_all, w.before _ s = true := fun w h => hts w (List.mem_cons_of_mem _ h)
  have hown : s.vm.findClass y.cls = some m.cls := findClass_of_methodNamed B.named
  have hlocks := B.notSynchronized
  have hr := B.returns
  have hD := hD0.self (sz := sz)
  have hl := lv_entry av (n := nL) (Nat.le_of_ble_eq_true hav)
  rw [lg_entry_eq]
  refine body p e s m _ below meth c (va_A w sz) _ _ ⟨B.exec, B.bytes, hml, hown, hts⟩ hE hP hD hR hZ (fun q h => Or.inr (by rw [← hsz]; exact h)) hl ?_
  intro v u H locs cells slots pc ls hp hn hP' hD' hS hc hs hd
  refine W.widen hc hs ?_
  exact W.zret (v := v) B.exec B.bytes hr hn (fun t ht hW => ⟨⟨v, u, rfl, hp, by rw [ht]; exact hP', hD'⟩, hS.F ht⟩) hS.2.2 hd
theorem df_ld {C : String} {x y : MethodName} {s : State} {args : Array Value} (h : (Cond.landsInDefault C x y).before #[] s = true) : (Cond.landsInDefault C x y).before args s = true := h
