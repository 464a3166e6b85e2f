/-! THE fx LAYER: one environment for all classes, worlds as lists of cells that a method may change, beside a list of cells that it only reads; contracts and calls in one shape. -/
set_option maxRecDepth 100000
abbrev fx_En : Type := va_G × (Nat → ClassId)
/-- all classes, by the numbers of their names' files -/
abbrev clA : List vw_C := [(RX0, TX0, 19), (RX1, TX1, 13), (RX2, TX2, 1), (RX3, TX3, 2), (RX4, TX4, 2), (RX5, TX5, 1), (RX6, TX6, 30), (RX7, TX7, 2), (RX8, TX8, 2), (RX9, TX9, 2), (RX10, TX10, 2), (RX11, TX11, 2), (RX12, TX12, 2), (RX13, TX13, 6), (RX14, TX14, 3), (RX15, TX15, 7)]
def inA_ (C : String) (T : u_T) (N : Nat) : Prop := ∀ w ∈ u_ws C T N, w ∈ lw_all
theorem inA : ∀ {ci : Nat} {C : String} {T : u_T} {N : Nat}, clA[ci]? = some (C, T, N) → ∀ w ∈ u_ws C T N, w ∈ lw_all := by
  have key : ∀ x ∈ clA, inA_ x.1 x.2.1 x.2.2 :=
    List.forall_mem_cons.2 ⟨in_X0, List.forall_mem_cons.2 ⟨in_X1, List.forall_mem_cons.2 ⟨in_X2, List.forall_mem_cons.2 ⟨in_X3, List.forall_mem_cons.2 ⟨in_X4, List.forall_mem_cons.2 ⟨in_X5, List.forall_mem_cons.2 ⟨in_X6, List.forall_mem_cons.2 ⟨in_X7, List.forall_mem_cons.2 ⟨in_X8, List.forall_mem_cons.2 ⟨in_X9, List.forall_mem_cons.2 ⟨in_X10, List.forall_mem_cons.2 ⟨in_X11, List.forall_mem_cons.2 ⟨in_X12, List.forall_mem_cons.2 ⟨in_X13, List.forall_mem_cons.2 ⟨in_X14, List.forall_mem_cons.2 ⟨in_X15, fun _ h => absurd h List.not_mem_nil⟩⟩⟩⟩⟩⟩⟩⟩⟩⟩⟩⟩⟩⟩⟩⟩
  intro ci C T N h
  exact key (C, T, N) (List.mem_of_getElem? h)
/-- the array classes -/
def tyA (d : Nat → ClassId) : List (ClassId × FieldType) := [(d 0, .int), (d 1, .byte), (d 2, .short), (d 3, .object RX2), (d 4, .object RX14)]
/-- nest mates' links -/
def nwA : List Cond := [Jvm.Cond.methodLinkNest "FigureTill$House" (44 : Nat) ({ cls := "FigureTill$Slot", name := "<init>", desc := "()V" } : Jvm.MethodName) "FigureTill", Jvm.Cond.fieldLinkNest "FigureTill$House" (50 : Nat) "FigureTill$Slot" "held" "Ljava/lang/Object;" "FigureTill", Jvm.Cond.fieldLinkNest "FigureTill" (187 : Nat) "FigureTill$Slot" "held" "Ljava/lang/Object;" "FigureTill", Jvm.Cond.fieldLinkNest "FigureTill" (133 : Nat) "FigureTill$House" "price" "[I" "FigureTill", Jvm.Cond.fieldLinkNest "FigureTill" (136 : Nat) "FigureTill$House" "cost" "[I" "FigureTill", Jvm.Cond.fieldLinkNest "FigureTill" (164 : Nat) "FigureTill$House" "stock" "[I" "FigureTill", Jvm.Cond.fieldLinkNest "FigureTill" (253 : Nat) "FigureTill$House" "takings" "I" "FigureTill", Jvm.Cond.fieldLinkNest "FigureTill" (256 : Nat) "FigureTill$House" "costs" "I" "FigureTill", Jvm.Cond.fieldLinkNest "FigureTill" (259 : Nat) "FigureTill$House" "goes" "I" "FigureTill", Jvm.Cond.fieldLinkNest "FigureTill" (274 : Nat) "FigureTill$House" "z" "I" "FigureTill", Jvm.Cond.fieldLinkNest "FigureTill" (198 : Nat) "FigureTill$House" "taped" "I" "FigureTill", Jvm.Cond.fieldLinkNest "FigureTill" (363 : Nat) "FigureTill$House" "waiting" "I" "FigureTill", Jvm.Cond.fieldLinkNest "FigureTill" (180 : Nat) "FigureTill$House" "till" "[LFigureTill$Slot;" "FigureTill", Jvm.Cond.fieldLinkNest "FigureTill$Eyes" (19 : Nat) "FigureTill$House" "texts" "[LFigureTill$Text;" "FigureTill", Jvm.Cond.fieldLinkNest "FigureTill" (129 : Nat) "FigureTill$House" "texts" "[LFigureTill$Text;" "FigureTill", Jvm.Cond.fieldLinkNest "FigureTill" (201 : Nat) "FigureTill$House" "tape" "[B" "FigureTill", Jvm.Cond.fieldLinkNest "FigureTill" (366 : Nat) "FigureTill$House" "waits" "[I" "FigureTill", Jvm.Cond.methodLinkNest "FigureTill" (85 : Nat) ({ cls := "FigureTill$Trace", name := "<init>", desc := "()V" } : Jvm.MethodName) "FigureTill", Jvm.Cond.fieldLinkNest "FigureTill" (346 : Nat) "FigureTill$Trace" "bodies" "[B" "FigureTill", Jvm.Cond.fieldLinkNest "FigureTill" (330 : Nat) "FigureTill$Trace" "many" "I" "FigureTill", Jvm.Cond.methodLinkNest "FigureTill" (95 : Nat) ({ cls := "FigureTill$Slot", name := "<init>", desc := "()V" } : Jvm.MethodName) "FigureTill", Jvm.Cond.methodLinkNest "FigureTill" (102 : Nat) ({ cls := "FigureTill$Eyes", name := "<init>", desc := "(LFigureTill;)V" } : Jvm.MethodName) "FigureTill", Jvm.Cond.fieldLinkNest "FigureTill$Eyes" (25 : Nat) "FigureTill" "named" "[I" "FigureTill", Jvm.Cond.fieldLinkNest "FigureTill$Eyes" (13 : Nat) "FigureTill" "house" "LFigureTill$House;" "FigureTill", Jvm.Cond.castable "FigureTill$Errs" "FigureTill$Pays", Jvm.Cond.methodLinkNest "FigureTill$Till" (16 : Nat) ({ cls := "FigureTill", name := "figuresOf", desc := "(II)I" } : Jvm.MethodName) "FigureTill", Jvm.Cond.castable "FigureTill$Floor" "FigureTill$Pays", Jvm.Cond.castable "FigureTill$Last" "FigureTill$Pays", Jvm.Cond.castable "FigureTill$Other" "FigureTill$Pays", Jvm.Cond.methodLinkNest "FigureTill$Root" (18 : Nat) ({ cls := "FigureTill", name := "rootOf", desc := "(II)I" } : Jvm.MethodName) "FigureTill", Jvm.Cond.castable "FigureTill$Root" "FigureTill$Pays", Jvm.Cond.castable "FigureTill$Till" "FigureTill$Pays", Jvm.Cond.castable "FigureTill$Told" "FigureTill$Pays", Jvm.Cond.castable "FigureTill$Eyes" "FigureTill$Sees", Jvm.Cond.methodLinkNest "FigureTill$Eyes" (29 : Nat) ({ cls := "FigureTill", name := "worked", desc := "(LFigureTill$Text;)I" } : Jvm.MethodName) "FigureTill", Jvm.Cond.methodLinkNest "FigureTill$Reader" (11 : Nat) ({ cls := "FigureTill$Text", name := "<init>", desc := "()V" } : Jvm.MethodName) "FigureTill", Jvm.Cond.fieldLinkNest "FigureTill" (49 : Nat) "FigureTill$Text" "step" "[B" "FigureTill", Jvm.Cond.fieldLinkNest "FigureTill" (57 : Nat) "FigureTill$Text" "value" "[S" "FigureTill", Jvm.Cond.fieldLinkNest "FigureTill" (43 : Nat) "FigureTill$Text" "many" "I" "FigureTill", Jvm.Cond.castable "FigureTill$Fault" "FigureTill$Fault", Jvm.Cond.fieldLinkNest "FigureTill" (222 : Nat) "FigureTill$Fault" "place" "I" "FigureTill", Jvm.Cond.methodLinkNest "FigureTill$Reader" (97 : Nat) ({ cls := "FigureTill", name := "isIn", desc := "(III)Z" } : Jvm.MethodName) "FigureTill", Jvm.Cond.castable "java/lang/ArithmeticException" "java/lang/ArithmeticException", Jvm.Cond.castable "FigureTill$Errs" "FigureTill$Comes", Jvm.Cond.castable "FigureTill$Floor" "FigureTill$Comes", Jvm.Cond.castable "FigureTill$Last" "FigureTill$Comes", Jvm.Cond.castable "FigureTill$Other" "FigureTill$Comes", Jvm.Cond.castable "FigureTill$Root" "FigureTill$Comes", Jvm.Cond.castable "FigureTill$Till" "FigureTill$Comes", Jvm.Cond.castable "FigureTill$Told" "FigureTill$Comes", Jvm.Cond.castable "java/lang/NegativeArraySizeException" "java/lang/NegativeArraySizeException", Jvm.Cond.castable "java/lang/ArrayStoreException" "java/lang/ArrayStoreException", Jvm.Cond.castable "FigureTill$Errs" "FigureTill$Till", Jvm.Cond.castable "FigureTill$Floor" "FigureTill$Till", Jvm.Cond.castable "FigureTill$Last" "FigureTill$Till", Jvm.Cond.castable "FigureTill$Other" "FigureTill$Till", Jvm.Cond.castable "FigureTill$Root" "FigureTill$Till", Jvm.Cond.castable "FigureTill$Told" "FigureTill$Till", Jvm.Cond.castable "FigureTill$Floor" "FigureTill$Last", Jvm.Cond.castable "FigureTill$Other" "FigureTill$Root"]
def nwOk (w : Cond) : Prop := (∃ a i b n d h, w = Cond.fieldLinkNest a i b n d h) ∨ (∃ a i x h, w = Cond.methodLinkNest a i x h) ∨ ∃ C T, w = Cond.castable C T
def fx_N (U : State) : Prop := ∀ w ∈ nwA, va_Nw w U
theorem nwA_ok : ∀ w ∈ nwA, nwOk w := by
  intro w hw
  simp only [nwA, List.mem_cons, List.not_mem_nil, or_false] at hw
  rcases hw with h | h | h | h | h | h | h | h | h | h | h | h | h | h | h | h | h | h | h | h | h | h | h | h | h | h | h | h | h | h | h | h | h | h | h | h | h | h | h | h | h | h | h | h | h | h | h | h | h | h | h | h | h | h | h | h | h | h | h | h <;> subst h <;> first | exact Or.inl ⟨_, _, _, _, _, _, rfl⟩ | exact Or.inr (Or.inl ⟨_, _, _, _, rfl⟩) | exact Or.inr (Or.inr ⟨_, _, rfl⟩)
theorem fx_N.warm {s U : State} (hW : s.WarmedH U.vm) (h : fx_N s) : fx_N U := by
  intro w hw
  rcases nwA_ok w hw with ⟨a, i, b, n, d, hh, rfl⟩ | ⟨a, i, x, hh, rfl⟩ | ⟨C, T, rfl⟩
  · exact va_Nw.warmF hW (h _ hw)
  · exact va_Nw.warmM hW (h _ hw)
  · exact va_Nw.warmC hW (h _ hw)
theorem fx_N.same {u U : State} (e : u.vm = U.vm) (h : fx_N u) : fx_N U := by
  intro w hw
  rcases nwA_ok w hw with ⟨a, i, b, n, d, hh, rfl⟩ | ⟨a, i, x, hh, rfl⟩ | ⟨C, T, rfl⟩ <;> exact va_Nw.same rfl e (h _ hw)
/-- interface calls: receiver's class, the interface's method, the method that runs -/
def ifA : List (String × MethodName × MethodName) := [("FigureTill$Till", ⟨"FigureTill$Pays", "pays", "(LFigureTill$Sees;II)I"⟩, ⟨"FigureTill$Till", "pays", "(LFigureTill$Sees;II)I"⟩), ("FigureTill$Last", ⟨"FigureTill$Pays", "pays", "(LFigureTill$Sees;II)I"⟩, ⟨"FigureTill$Last", "pays", "(LFigureTill$Sees;II)I"⟩), ("FigureTill$Root", ⟨"FigureTill$Pays", "pays", "(LFigureTill$Sees;II)I"⟩, ⟨"FigureTill$Root", "pays", "(LFigureTill$Sees;II)I"⟩), ("FigureTill$Errs", ⟨"FigureTill$Pays", "pays", "(LFigureTill$Sees;II)I"⟩, ⟨"FigureTill$Errs", "pays", "(LFigureTill$Sees;II)I"⟩), ("FigureTill$Other", ⟨"FigureTill$Pays", "pays", "(LFigureTill$Sees;II)I"⟩, ⟨"FigureTill$Root", "pays", "(LFigureTill$Sees;II)I"⟩), ("FigureTill$Floor", ⟨"FigureTill$Pays", "pays", "(LFigureTill$Sees;II)I"⟩, ⟨"FigureTill$Floor", "pays", "(LFigureTill$Sees;II)I"⟩), ("FigureTill$Told", ⟨"FigureTill$Pays", "pays", "(LFigureTill$Sees;II)I"⟩, ⟨"FigureTill$Told", "pays", "(LFigureTill$Sees;II)I"⟩), ("FigureTill$Eyes", ⟨"FigureTill$Sees", "told", "(IIII)I"⟩, ⟨"FigureTill$Eyes", "told", "(IIII)I"⟩), ("FigureTill$Till", ⟨"FigureTill$Comes", "adds", "(ILFigureTill$Trace;)I"⟩, ⟨"FigureTill$Till", "adds", "(ILFigureTill$Trace;)I"⟩), ("FigureTill$Last", ⟨"FigureTill$Comes", "adds", "(ILFigureTill$Trace;)I"⟩, ⟨"FigureTill$Last", "adds", "(ILFigureTill$Trace;)I"⟩), ("FigureTill$Root", ⟨"FigureTill$Comes", "adds", "(ILFigureTill$Trace;)I"⟩, ⟨"FigureTill$Till", "adds", "(ILFigureTill$Trace;)I"⟩), ("FigureTill$Errs", ⟨"FigureTill$Comes", "adds", "(ILFigureTill$Trace;)I"⟩, ⟨"FigureTill$Till", "adds", "(ILFigureTill$Trace;)I"⟩), ("FigureTill$Other", ⟨"FigureTill$Comes", "adds", "(ILFigureTill$Trace;)I"⟩, ⟨"FigureTill$Till", "adds", "(ILFigureTill$Trace;)I"⟩), ("FigureTill$Floor", ⟨"FigureTill$Comes", "adds", "(ILFigureTill$Trace;)I"⟩, ⟨"FigureTill$Floor", "adds", "(ILFigureTill$Trace;)I"⟩), ("FigureTill$Told", ⟨"FigureTill$Comes", "adds", "(ILFigureTill$Trace;)I"⟩, ⟨"FigureTill$Told", "adds", "(ILFigureTill$Trace;)I"⟩)]
theorem ifA_ok : ∀ q ∈ ifA, q.2.1.cls ≠ "java/lang/invoke/MethodHandle" ∧ q.2.1.cls ≠ "java/lang/invoke/VarHandle" := by decide +kernel
def fx_F (U : State) : Prop := ∀ q ∈ ifA, va_Fw q.1 q.2.1 q.2.2 U
/-- casts that fail -/
def ncA : List (String × String) := [("FigureTill$Till", "FigureTill$Last"), ("FigureTill$Root", "FigureTill$Last"), ("FigureTill$Errs", "FigureTill$Last"), ("FigureTill$Other", "FigureTill$Last"), ("FigureTill$Told", "FigureTill$Last"), ("FigureTill$Till", "FigureTill$Root"), ("FigureTill$Last", "FigureTill$Root"), ("FigureTill$Errs", "FigureTill$Root"), ("FigureTill$Floor", "FigureTill$Root"), ("FigureTill$Told", "FigureTill$Root"), ("FigureTill$Till", "FigureTill$Errs"), ("FigureTill$Last", "FigureTill$Errs"), ("FigureTill$Root", "FigureTill$Errs"), ("FigureTill$Other", "FigureTill$Errs"), ("FigureTill$Floor", "FigureTill$Errs"), ("FigureTill$Told", "FigureTill$Errs"), ("FigureTill$Till", "FigureTill$Other"), ("FigureTill$Last", "FigureTill$Other"), ("FigureTill$Root", "FigureTill$Other"), ("FigureTill$Errs", "FigureTill$Other"), ("FigureTill$Floor", "FigureTill$Other"), ("FigureTill$Told", "FigureTill$Other"), ("FigureTill$Till", "FigureTill$Floor"), ("FigureTill$Last", "FigureTill$Floor"), ("FigureTill$Root", "FigureTill$Floor"), ("FigureTill$Errs", "FigureTill$Floor"), ("FigureTill$Other", "FigureTill$Floor"), ("FigureTill$Told", "FigureTill$Floor"), ("FigureTill$Till", "FigureTill$Told"), ("FigureTill$Last", "FigureTill$Told"), ("FigureTill$Root", "FigureTill$Told"), ("FigureTill$Errs", "FigureTill$Told"), ("FigureTill$Other", "FigureTill$Told"), ("FigureTill$Floor", "FigureTill$Told"), ("[I", "[B"), ("[S", "[B"), ("[I", "[S"), ("[B", "[S")]
def fx_NC (U : State) : Prop := ∀ q ∈ ncA, va_Nc q.1 q.2 U
/-- what the machine's tables say, all through a run -/
def fx_K (E : fx_En) (U : State) : Prop := va_K E.1 clA (tyA E.2) U ∧ fx_N U ∧ (va_AO RX2 U ∧ va_AO RX14 U) ∧ fx_F U ∧ fx_NC U
theorem fx_K.warm {E : fx_En} {s U : State} (hW : s.WarmedH U.vm) (h : fx_K E s) : fx_K E U :=
  ⟨va_K.moved hW.alike h.1, fx_N.warm hW h.2.1, ⟨va_AO.moved hW.alike h.2.2.1.1, va_AO.moved hW.alike h.2.2.1.2⟩, fun q hq => va_Fw.moved (ifA_ok q hq) hW.alike (h.2.2.2.1 q hq), fun q hq => va_Nc.moved hW.alike (h.2.2.2.2 q hq)⟩
theorem fx_K.same {E : fx_En} {u U : State} (e : u.vm = U.vm) (h : fx_K E u) : fx_K E U := by
  have ha : u.vm.Alike U.vm := by rw [e]; exact Vm.Alike.refl _
  exact ⟨va_K.moved ha h.1, fx_N.same e h.2.1, ⟨va_AO.moved ha h.2.2.1.1, va_AO.moved ha h.2.2.1.2⟩, fun q hq => va_Fw.moved (ifA_ok q hq) ha (h.2.2.2.1 q hq), fun q hq => va_Nc.moved ha (h.2.2.2.2 q hq)⟩
/-- cells that are only read: they stand, and are none that may change -/
def fx_R (E : fx_En) (A : Nat → Prop) (Rl : va_W) (H : Heap) : Prop := va_P E.1 clA Rl H ∧ ∀ (k : Nat) (q : Nat × va_E), Rl[k]? = some q → ¬ A q.1
theorem fx_R.at {E : fx_En} {A : Nat → Prop} {Rl : va_W} {H0 H : Heap} {locs : List Loc} (h : fx_R E A Rl H0) (hS : va_S A H0 H locs) : va_P E.1 clA Rl H :=
  h.1.kept fun k q hk => hS.2.1 q.1 ((h.1 k q hk).lt) (h.2 k q hk)
theorem fx_R.nil {E : fx_En} {A : Nat → Prop} {H : Heap} : fx_R E A [] H := ⟨fun _ _ h => by simp at h, fun _ _ h => by simp at h⟩
/-- a contract's start -/
def fx_P (E : fx_En) (av : List Value) (w Rl : va_W) (sz : Nat) : Array Value → State → Prop := va_Pc av (fun U => U.heap.size = sz ∧ va_P E.1 clA w U.heap ∧ fx_K E U ∧ va_D (fun _ => True) w ∧ fx_R E (va_A w sz) Rl U.heap)
def fx_B {S : Type} (E : fx_En) (A : Nat → Prop) (w' : S → va_W) (u : S) (t : State) : Prop := va_P E.1 clA (w' u) t.heap ∧ va_D A (w' u)
/-- contracts: an int (boolean, byte ..), nothing, a long, a reference or null -/
def fx_Mi (l : Launch) (y : MethodName) (cc : ByteArray) (nL : Nat) (rt : FieldType) (rm : Room) (E : fx_En) (av : List Value) (w Rl : va_W) {S : Type} (w' : S → va_W) (post : Int32 → S → Prop) : Prop :=
  ∀ sz, Met l y (ws_ y cc nL (some rt)) rm (fx_P E av w Rl sz) (va_Qi post (fx_B E (va_A w sz) w') (va_A w sz)) rm.cells rm.slots (va_A w sz)
def fx_Mv (l : Launch) (y : MethodName) (cc : ByteArray) (nL : Nat) (rm : Room) (E : fx_En) (av : List Value) (w Rl : va_W) {S : Type} (w' : S → va_W) (post : S → Prop) : Prop :=
  ∀ sz, Met l y (ws_ y cc nL none) rm (fx_P E av w Rl sz) (va_Qv post (fx_B E (va_A w sz) w') (va_A w sz)) rm.cells rm.slots (va_A w sz)
def fx_Ml (l : Launch) (y : MethodName) (cc : ByteArray) (nL : Nat) (rm : Room) (E : fx_En) (av : List Value) (w Rl : va_W) {S : Type} (w' : S → va_W) (post : Int64 → S → Prop) : Prop :=
  ∀ sz, Met l y (ws_ y cc nL (some .long)) rm (fx_P E av w Rl sz) (va_Ql post (fx_B E (va_A w sz) w') (va_A w sz)) rm.cells rm.slots (va_A w sz)
def fx_Mq (l : Launch) (y : MethodName) (cc : ByteArray) (nL : Nat) (rt : FieldType) (rm : Room) (E : fx_En) (av : List Value) (w Rl : va_W) {S : Type} (w' : S → va_W) (post : Option Nat → S → Prop) : Prop :=
  ∀ sz, Met l y (ws_ y cc nL (some rt)) rm (fx_P E av w Rl sz) (va_Qq post (fx_B E (va_A w sz) w') (va_A w sz)) rm.cells rm.slots (va_A w sz)
theorem fx_blind {E : fx_En} {av : List Value} {w Rl : va_W} {sz : Nat} : FrameBlind (fx_P E av w Rl sz) := by
  intro a U g mk h
  obtain ⟨h0, h1, h2, h3, h4, h5⟩ := h
  exact ⟨h0, h1, h2, fx_K.same (u := U) (U := U.calling g mk a) rfl h3, h4, h5⟩
/-- the callee's world back in its places, what is new behind -/
def fx_put : va_W → List Nat → va_W → va_W
  | ws, [], v => ws ++ v
  | _, _ :: _, [] => []
  | ws, i :: is, c :: v => fx_put (ws.set i c) is v
theorem fx_put_get : ∀ (is : List Nat) (ws v : va_W) (k : Nat) (q : Nat × va_E), (∀ i ∈ is, i < ws.length) → va_nd is = true → (fx_put ws is v)[k]? = some q →
    (k ∉ is ∧ k < ws.length ∧ ws[k]? = some q) ∨ ∃ i, v[i]? = some q ∧ (is[i]? = some k ∨ (is.length ≤ i ∧ k = ws.length + (i - is.length)))
  | [], ws, v, k, q, _, _, h => by
    unfold fx_put at h
    by_cases hl : k < ws.length
    · rw [List.getElem?_append_left hl] at h
      exact Or.inl ⟨List.not_mem_nil, hl, h⟩
    · rw [List.getElem?_append_right (by omega)] at h
      exact Or.inr ⟨k - ws.length, h, Or.inr ⟨Nat.zero_le _, by simp; omega⟩⟩
  | _ :: _, ws, [], k, q, _, _, h => by
    unfold fx_put at h
    simp at h
  | i :: is, ws, c :: v, k, q, hl, hn, h => by
    unfold fx_put at h
    simp only [va_nd, Bool.and_eq_true, decide_eq_true_eq] at hn
    have hi := hl i List.mem_cons_self
    rcases fx_put_get is (ws.set i c) v k q (fun j hj => by rw [List.length_set]; exact hl j (List.mem_cons_of_mem _ hj)) hn.2 h with ⟨h1, h2, h3⟩ | ⟨j, h1, h2⟩
    · rw [List.length_set] at h2
      by_cases hk : i = k
      · subst hk
        rw [List.getElem?_set_self hi] at h3
        cases h3
        exact Or.inr ⟨0, rfl, Or.inl rfl⟩
      · rw [List.getElem?_set_ne hk] at h3
        exact Or.inl ⟨fun hm => (List.mem_cons.mp hm).elim (fun e => hk e.symm) h1, h2, h3⟩
    · refine Or.inr ⟨j + 1, by rw [List.getElem?_cons_succ]; exact h1, ?_⟩
      rcases h2 with h2 | ⟨h2, h3⟩
      · exact Or.inl (by rw [List.getElem?_cons_succ]; exact h2)
      · rw [List.length_set] at h3
        exact Or.inr ⟨by simp; omega, by simp; omega⟩
theorem fx_join {E : fx_En} {A : Nat → Prop} {ws wc w1 : va_W} {H H1 : Heap} (hP : va_P E.1 clA ws H) (hD : va_D A ws) (is : List Nat) (hC : is.map (fun i => ws[i]?) = wc.map some) (hn : va_nd is = true)
    (hk : ∀ q : Nat, q < H.size → ¬ va_A wc H.size q → H1[q]? = H[q]?) (hF : ∀ q, va_A wc H.size q → A q) (hP1 : va_P E.1 clA w1 H1) (hD1 : va_D (va_A wc H.size) w1) : va_P E.1 clA (fx_put ws is w1) H1 ∧ va_D A (fx_put ws is w1) := by
  have hin : ∀ i ∈ is, i < ws.length := by
    intro i hi
    have h1 : ws[i]? ∈ wc.map some := by rw [← hC]; exact List.mem_map.mpr ⟨i, hi, rfl⟩
    obtain ⟨x, -, hx⟩ := List.mem_map.mp h1
    exact (List.getElem?_eq_some_iff.mp hx.symm).1
  have apart : ∀ (k : Nat) (q : Nat × va_E), k ∉ is → ws[k]? = some q → ¬ va_A wc H.size q.1 := by
    intro k q hki hq h
    rcases h with ⟨j, e, h⟩ | h
    · have h1 : (is.map (fun i => ws[i]?))[j]? = some (some (q.1, e)) := by rw [hC, List.getElem?_map, h]; rfl
      rw [List.getElem?_map] at h1
      cases hi : is[j]? with
      | none => rw [hi] at h1; cases h1
      | some i =>
        rw [hi] at h1
        have h2 : ws[i]? = some (q.1, e) := Option.some.inj h1
        have hij := hD.1 k i q (q.1, e) hq h2 rfl
        subst hij
        exact hki (List.mem_of_getElem? hi)
    · have := (hP k q hq).lt
      omega
  have idx : ∀ {a b i : Nat}, (is[i]? = some a ∨ (is.length ≤ i ∧ a = ws.length + (i - is.length))) → (is[i]? = some b ∨ (is.length ≤ i ∧ b = ws.length + (i - is.length))) → a = b := by
    intro a b i h1 h2
    rcases h1 with h1 | ⟨h1, e1⟩ <;> rcases h2 with h2 | ⟨h2, e2⟩
    · exact Option.some.inj (h1.symm.trans h2)
    · have := (List.getElem?_eq_some_iff.mp h1).1; omega
    · have := (List.getElem?_eq_some_iff.mp h2).1; omega
    · omega
  refine ⟨fun k q h => ?_, fun i j x y hx hy hxy => ?_, fun k q h => ?_⟩
  · rcases fx_put_get is ws w1 k q hin hn h with ⟨h1, h2, h3⟩ | ⟨i, h1, -⟩
    · exact (hP k q h3).kept (hk q.1 ((hP k q h3).lt) (apart k q h1 h3))
    · exact hP1 i q h1
  · rcases fx_put_get is ws w1 i x hin hn hx with ⟨a1, a2, a3⟩ | ⟨a, a1, a2⟩ <;> rcases fx_put_get is ws w1 j y hin hn hy with ⟨b1, b2, b3⟩ | ⟨b, b1, b2⟩
    · exact hD.1 i j x y a3 b3 hxy
    · exact absurd (by rw [hxy]; exact hD1.2 b y b1) (apart i x a1 a3)
    · exact absurd (by rw [← hxy]; exact hD1.2 a x a1) (apart j y b1 b3)
    · have hab := hD1.1 a b x y a1 b1 hxy
      subst hab
      exact idx a2 b2
  · rcases fx_put_get is ws w1 k q hin hn h with ⟨h1, h2, h3⟩ | ⟨i, h1, -⟩
    · exact hD.2 k q h3
    · exact hF q.1 (hD1.2 i q h1)
/-- what a callee only reads, out of the caller's cells -/
theorem fx_Rof {E : fx_En} {A : Nat → Prop} {ws wc Rl Rc : va_W} {H0 H : Heap} {locs : List Loc} (hP : va_P E.1 clA ws H) (hD : va_D A ws) (hS : va_S A H0 H locs) (hR : fx_R E A Rl H0) (is : List Nat) (hC : is.map (fun i => ws[i]?) = wc.map some)
    (hc : ∀ q ∈ Rc, (∃ j, ws[j]? = some q ∧ j ∉ is) ∨ q ∈ Rl) : fx_R E (va_A wc H.size) Rc H := by
  have back : ∀ {a : Nat}, (∃ (k : Nat) (e : va_E), wc[k]? = some (a, e)) → ∃ i e, i ∈ is ∧ ws[i]? = some (a, e) := by
    intro a ⟨k, e, h⟩
    have h1 : (is.map (fun i => ws[i]?))[k]? = some (some (a, e)) := by rw [hC, List.getElem?_map, h]; rfl
    rw [List.getElem?_map] at h1
    cases hi : is[k]? with
    | none => rw [hi] at h1; cases h1
    | some i => rw [hi] at h1; exact ⟨i, e, List.mem_of_getElem? hi, Option.some.inj h1⟩
  have hRH := hR.at hS
  refine ⟨fun k q hk => ?_, fun k q hk h => ?_⟩
  · rcases hc q (List.mem_of_getElem? hk) with ⟨j, h1, -⟩ | h1
    · exact hP j q h1
    · obtain ⟨j, hj⟩ := List.getElem?_of_mem h1
      exact hRH j q hj
  · rcases hc q (List.mem_of_getElem? hk) with ⟨j, h1, h2⟩ | h1
    · rcases h with h | h
      · obtain ⟨i, e, hi, he⟩ := back h
        have := hD.1 j i q (q.1, e) h1 he rfl
        subst this
        exact h2 hi
      · have := (hP j q h1).lt
        omega
    · obtain ⟨j, hj⟩ := List.getElem?_of_mem h1
      rcases h with h | h
      · obtain ⟨i, e, hi, he⟩ := back h
        exact hR.2 j q hj (hD.2 i (q.1, e) he)
      · have := (hRH j q hj).lt
        omega
theorem fx_free {A : Nat → Prop} {ws wc : va_W} {H0 H : Heap} {locs : List Loc} (hD : va_D A ws) (hS : va_S A H0 H locs) (hA : ∀ q, H0.size ≤ q → A q) (is : List Nat) (hC : is.map (fun i => ws[i]?) = wc.map some) : ∀ q, va_A wc H.size q → A q := va_free hD hS hA is hC
theorem fx_Dof {A : Nat → Prop} {ws wc : va_W} (hD : va_D A ws) (is : List Nat) (hn : va_nd is = true) (hC : is.map (fun i => ws[i]?) = wc.map some) : va_D (fun _ => True) wc := (hD.sub is hn hC).weaken fun _ _ _ _ => trivial
theorem fx_Pof {E : fx_En} {ws wc : va_W} {H : Heap} (hP : va_P E.1 clA ws H) (is : List Nat) (hC : is.map (fun i => ws[i]?) = wc.map some) : va_P E.1 clA wc H := by
  intro k q hk
  have h1 : (is.map (fun i => ws[i]?))[k]? = some (some q) := by rw [hC, List.getElem?_map, hk]; rfl
  rw [List.getElem?_map] at h1
  cases hi : is[k]? with
  | none => rw [hi] at h1; cases h1
  | some i => rw [hi] at h1; exact hP i q (Option.some.inj h1)
/-- a call's start out of the caller's world -/
theorem fx_pre {E : fx_En} {A : Nat → Prop} {av : List Value} {s : State} {ws wc Rl Rc : va_W} {H : Heap} {locs : List Loc} (hE : fx_K E s) (hP : va_P E.1 clA ws H) (hD : va_D A ws) (hS : va_S A s.heap H locs) (hR : fx_R E A Rl s.heap) (is : List Nat) (hn : va_nd is = true) (hC : is.map (fun i => ws[i]?) = wc.map some)
    (hc : ∀ q ∈ Rc, (∃ j, ws[j]? = some q ∧ j ∉ is) ∨ q ∈ Rl) : FrameBlind (fx_P E av wc Rc H.size) ∧ ∀ U : State, U.heap = H → s.WarmedH U.vm → fx_P E av wc Rc H.size av.toArray U := by
  refine ⟨fx_blind, fun U hU hW => ⟨rfl, by rw [hU], by rw [hU]; exact fx_Pof hP is hC, fx_K.warm hW hE, fx_Dof hD is hn hC, by rw [hU]; exact fx_Rof hP hD hS hR is hC hc⟩⟩
theorem fx_rc0 {ws Rl : va_W} {is : List Nat} : ∀ q ∈ ([] : va_W), (∃ j, ws[j]? = some q ∧ j ∉ is) ∨ q ∈ Rl := fun _ h => absurd h List.not_mem_nil
/-- from the caller's changing cells, by its place -/
theorem fx_rcm {ws Rl Rc : va_W} {is : List Nat} {c : Nat × va_E} (j : Nat) (h : ws[j]? = some c) (hj : j ∉ is) (t : ∀ q ∈ Rc, (∃ j, ws[j]? = some q ∧ j ∉ is) ∨ q ∈ Rl) : ∀ q ∈ c :: Rc, (∃ j, ws[j]? = some q ∧ j ∉ is) ∨ q ∈ Rl :=
  List.forall_mem_cons.2 ⟨Or.inl ⟨j, h, hj⟩, t⟩
/-- from the caller's read cells, by its place -/
theorem fx_rcr {ws Rl Rc : va_W} {is : List Nat} {c : Nat × va_E} (j : Nat) (h : Rl[j]? = some c) (t : ∀ q ∈ Rc, (∃ j, ws[j]? = some q ∧ j ∉ is) ∨ q ∈ Rl) : ∀ q ∈ c :: Rc, (∃ j, ws[j]? = some q ∧ j ∉ is) ∨ q ∈ Rl :=
  List.forall_mem_cons.2 ⟨Or.inr (List.mem_of_getElem? h), t⟩
theorem fx_rcx {ws Rl Rc : va_W} {is : List Nat} {c : Nat × va_E} (h : c ∈ Rl) (t : ∀ q ∈ Rc, (∃ j, ws[j]? = some q ∧ j ∉ is) ∨ q ∈ Rl) : ∀ q ∈ c :: Rc, (∃ j, ws[j]? = some q ∧ j ∉ is) ∨ q ∈ Rl :=
  List.forall_mem_cons.2 ⟨Or.inr h, t⟩
/-- a tail of read cells -/
theorem fx_rct {ws Rl PL : va_W} {is : List Nat} (h : ∀ q ∈ PL, q ∈ Rl) : ∀ q ∈ PL, (∃ j, ws[j]? = some q ∧ j ∉ is) ∨ q ∈ Rl := fun q hq => Or.inr (h q hq)
theorem fx_one {E : fx_En} {ws : va_W} {H : Heap} {c : Nat × va_E} (hP : va_P E.1 clA ws H) (h : c ∈ ws) : va_P E.1 clA [c] H := by
  obtain ⟨j, hj⟩ := List.getElem?_of_mem h
  intro k q hk
  cases k with
  | zero => cases hk; exact hP j _ hj
  | succ k => simp at hk
section FX
variable {p : Program} {l : Launch} {e : Env} {R : Room} {s : State} {m : MethodId} {args : Array Value} {below : List Frame} {meth : Method} {c : Code} {H : Heap} {locs : List Loc} {cells slots : Nat} {Q : State → Prop}
variable {own : String} {cc : ByteArray} {nL : Nat} {pc : Nat} {ls : Array Slot} {rest : List Value} {E : fx_En} {A : Nat → Prop} {ws : va_W}
theorem fx_get (X : CallFix p m c cc nL s args lw_all own) (hE : fx_K E s) (hP : va_P E.1 clA ws H) (q0 : Nat) {a ci : Nat} {fs : List Value} (he : ws[q0]? = some (a, .inr (ci, fs))) {C : String} {T : u_T} {N : Nat} (hc : clA[ci]? = some (C, T, N)) (k : Nat) (hk : Nat.blt k N = true) {idx : Nat} {ref : String} (hl : Cond.fieldLink own idx ref (T k).2.1 (T k).2.2.1 ∈ lw_all) (hs : (T k).1 = ref) {v : Value} (hv : fs[k]? = some v) (hdg : decode cc pc = .ok (.getfield idx, 3))
    (kk : W p l e R s m args below meth c H locs cells slots Q (F0 m (pc + 3) ls (v :: rest))) : W p l e R s m args below meth c H locs cells slots Q (F0 m pc ls (.ref a :: rest)) :=
  va_get X.1 X.2.1 X.2.2.2.2 (inA hc) X.2.2.2.1 hE.1 hP q0 he hc k (by simpa [Nat.blt_eq] using hk) (X.2.2.2.2 _ hl) (by subst hs; exact fun _ h => h) hv hdg kk
theorem fx_getS (X : CallFix p m c cc nL s args lw_all own) (hE : fx_K E s) (hP : va_P E.1 clA ws H) (q0 : Nat) {a ci : Nat} {fs : List Value} (he : ws[q0]? = some (a, .inr (ci, fs))) {C : String} {T : u_T} {N : Nat} (hc : clA[ci]? = some (C, T, N)) (k : Nat) (hk : Nat.blt k N = true) {idx : Nat} {ref : String} (hl : Cond.fieldLink own idx ref (T k).2.1 (T k).2.2.1 ∈ lw_all) (hs : Cond.sameField ref (T k).1 (T k).2.1 (T k).2.2.1 ∈ lw_all) {v : Value} (hv : fs[k]? = some v) (hdg : decode cc pc = .ok (.getfield idx, 3))
    (kk : W p l e R s m args below meth c H locs cells slots Q (F0 m (pc + 3) ls (v :: rest))) : W p l e R s m args below meth c H locs cells slots Q (F0 m pc ls (.ref a :: rest)) :=
  va_get X.1 X.2.1 X.2.2.2.2 (inA hc) X.2.2.2.1 hE.1 hP q0 he hc k (by simpa [Nat.blt_eq] using hk) (X.2.2.2.2 _ hl) (fun x h => u_same (X.2.2.2.2 _ hs) x h) hv hdg kk
theorem fx_getN (X : CallFix p m c cc nL s args lw_all own) (hE : fx_K E s) (hP : va_P E.1 clA ws H) (q0 : Nat) {a ci : Nat} {fs : List Value} (he : ws[q0]? = some (a, .inr (ci, fs))) {C : String} {T : u_T} {N : Nat} (hc : clA[ci]? = some (C, T, N)) (k : Nat) (hk : Nat.blt k N = true) {idx : Nat} {ref host : String} (i : Nat) (hl : nwA[i]? = some (Cond.fieldLinkNest own idx ref (T k).2.1 (T k).2.2.1 host)) (hs : (T k).1 = ref) {v : Value} (hv : fs[k]? = some v) (hdg : decode cc pc = .ok (.getfield idx, 3))
    (kk : W p l e R s m args below meth c H locs cells slots Q (F0 m (pc + 3) ls (v :: rest))) : W p l e R s m args below meth c H locs cells slots Q (F0 m pc ls (.ref a :: rest)) :=
  va_getN X.1 X.2.1 X.2.2.2.2 (inA hc) X.2.2.2.1 hE.1 hP q0 he hc k (by simpa [Nat.blt_eq] using hk) (va_Nw.use rfl (hE.2.1 _ (List.mem_of_getElem? hl))) (by subst hs; exact fun _ h => h) hv hdg kk
theorem fx_put_ (X : CallFix p m c cc nL s args lw_all own) (hE : fx_K E s) {H0 : Heap} (hP : va_P E.1 clA ws H) (hD : va_D A ws) (hS : va_S A H0 H locs) (q0 : Nat) {a ci : Nat} {fs : List Value} (he : ws[q0]? = some (a, .inr (ci, fs))) {C : String} {T : u_T} {N : Nat} (hc : clA[ci]? = some (C, T, N)) {ty0 : Nat → FieldType} (hty : ∀ k, k < N → parseFieldDescriptor (T k).2.2.1 = some (ty0 k)) (hnm : ∀ a, a < N → ∀ b, b < N → a ≠ b → (T a).2.1 ≠ (T b).2.1) (k : Nat) (hk : Nat.blt k N = true) {idx : Nat} {ref : String} (hl : Cond.fieldLink own idx ref (T k).2.1 (T k).2.2.1 ∈ lw_all) (hs : (T k).1 = ref) (hfin : (T k).2.2.2 = false) {v : Value} (hn : narrow (ty0 k) v = v) (hfit : fits (ty0 k) v = true) (hlen : Nat.blt k fs.length = true) {ws' : va_W} (hw : ws.set q0 (a, .inr (ci, fs.set k v)) = ws') (hdg : decode cc pc = .ok (.putfield idx, 3))
    (kk : ∀ (H1 : Heap) (locs1 : List Loc), va_P E.1 clA ws' H1 → va_D A ws' → va_S A H0 H1 locs1 → W p l e R s m args below meth c H1 locs1 cells slots Q (F0 m (pc + 3) ls rest)) : W p l e R s m args below meth c H locs cells slots Q (F0 m pc ls (v :: .ref a :: rest)) := by
  have hk' : k < N := by simpa [Nat.blt_eq] using hk
  subst hw
  exact va_put X.1 X.2.1 X.2.2.2.2 (inA hc) ty0 hty hnm X.2.2.2.1 hE.1 hP hD hS q0 he hc k hk' (X.2.2.2.2 _ hl) (by subst hs; exact fun _ h => h) hfin (hty k hk') hn hfit (by simpa [Nat.blt_eq] using hlen) hdg kk
theorem fx_putN (X : CallFix p m c cc nL s args lw_all own) (hE : fx_K E s) {H0 : Heap} (hP : va_P E.1 clA ws H) (hD : va_D A ws) (hS : va_S A H0 H locs) (q0 : Nat) {a ci : Nat} {fs : List Value} (he : ws[q0]? = some (a, .inr (ci, fs))) {C : String} {T : u_T} {N : Nat} (hc : clA[ci]? = some (C, T, N)) {ty0 : Nat → FieldType} (hty : ∀ k, k < N → parseFieldDescriptor (T k).2.2.1 = some (ty0 k)) (hnm : ∀ a, a < N → ∀ b, b < N → a ≠ b → (T a).2.1 ≠ (T b).2.1) (k : Nat) (hk : Nat.blt k N = true) {idx : Nat} {ref host : String} (i : Nat) (hl : nwA[i]? = some (Cond.fieldLinkNest own idx ref (T k).2.1 (T k).2.2.1 host)) (hs : (T k).1 = ref) (hfin : (T k).2.2.2 = false) {v : Value} (hn : narrow (ty0 k) v = v) (hfit : fits (ty0 k) v = true) (hlen : Nat.blt k fs.length = true) {ws' : va_W} (hw : ws.set q0 (a, .inr (ci, fs.set k v)) = ws') (hdg : decode cc pc = .ok (.putfield idx, 3))
    (kk : ∀ (H1 : Heap) (locs1 : List Loc), va_P E.1 clA ws' H1 → va_D A ws' → va_S A H0 H1 locs1 → W p l e R s m args below meth c H1 locs1 cells slots Q (F0 m (pc + 3) ls rest)) : W p l e R s m args below meth c H locs cells slots Q (F0 m pc ls (v :: .ref a :: rest)) := by
  have hk' : k < N := by simpa [Nat.blt_eq] using hk
  subst hw
  exact va_putN X.1 X.2.1 X.2.2.2.2 (inA hc) ty0 hty hnm X.2.2.2.1 hE.1 hP hD hS q0 he hc k hk' (va_Nw.use rfl (hE.2.1 _ (List.mem_of_getElem? hl))) (by subst hs; exact fun _ h => h) hfin (hty k hk') hn hfit (by simpa [Nat.blt_eq] using hlen) hdg kk
theorem fx_putF (X : CallFix p m c cc nL s args lw_all own) (hE : fx_K E s) {H0 : Heap} (hP : va_P E.1 clA ws H) (hD : va_D A ws) (hS : va_S A H0 H locs) (q0 : Nat) {a ci : Nat} {fs : List Value} (he : ws[q0]? = some (a, .inr (ci, fs))) {C : String} {T : u_T} {N : Nat} (hc : clA[ci]? = some (C, T, N)) {ty0 : Nat → FieldType} (hty : ∀ k, k < N → parseFieldDescriptor (T k).2.2.1 = some (ty0 k)) (hnm : ∀ a, a < N → ∀ b, b < N → a ≠ b → (T a).2.1 ≠ (T b).2.1) (k : Nat) (hk : Nat.blt k N = true) {idx : Nat} {ref : String} (hl : Cond.fieldLink own idx ref (T k).2.1 (T k).2.2.1 ∈ lw_all) (hs : (T k).1 = ref) (hfin : (T k).2.2.2 = true) (hin : meth.name = "<init>") (hdecl : (T k).1 = own) {v : Value} (hn : narrow (ty0 k) v = v) (hfit : fits (ty0 k) v = true) (hlen : Nat.blt k fs.length = true) {ws' : va_W} (hw : ws.set q0 (a, .inr (ci, fs.set k v)) = ws') (hdg : decode cc pc = .ok (.putfield idx, 3))
    (kk : ∀ (H1 : Heap) (locs1 : List Loc), va_P E.1 clA ws' H1 → va_D A ws' → va_S A H0 H1 locs1 → W p l e R s m args below meth c H1 locs1 cells slots Q (F0 m (pc + 3) ls rest)) : W p l e R s m args below meth c H locs cells slots Q (F0 m pc ls (v :: .ref a :: rest)) := by
  have hk' : k < N := by simpa [Nat.blt_eq] using hk
  subst hw
  exact va_putF X.1 X.2.1 X.2.2.2.2 (inA hc) ty0 hty hnm X.2.2.2.1 hE.1 hP hD hS q0 he hc k hk' (X.2.2.2.2 _ hl) (by subst hs; exact fun _ h => h) hfin hin hdecl (hty k hk') hn hfit (by simpa [Nat.blt_eq] using hlen) hdg kk
theorem fx_ix {i : Int32} {j n : Nat} (hi : i = nI j) (hj : j < n) (hn : Nat.blt n 2147483648 = true) : vp_in i n ∧ i.toNatClampNeg = j := by
  have h1 : n < 2147483648 := by simpa [Nat.blt_eq] using hn
  subst hi
  exact ⟨vp_in_nI hj (by omega), nI_clamp (by omega)⟩
/-- a load at a known place: the value by its name -/
theorem fx_iald (X : CallFix p m c cc nL s args lw_all own) (hE : fx_K E s) (hP : va_P E.1 clA ws H) (q0 : Nat) {a n : Nat} {f : Nat → Int32} (ha : ws[q0]? = some (a, .inl (E.2 0, n, .inl f))) (j : Nat) {i : Int32} (hi : i = nI j) (hj : j < n) (hn : Nat.blt n 2147483648 = true) (hdg : decode cc pc = .ok (.iaload, 1))
    (kk : W p l e R s m args below meth c H locs cells slots Q (F0 m (pc + 1) ls (.int (f j) :: rest))) : W p l e R s m args below meth c H locs cells slots Q (F0 m pc ls (.int i :: .ref a :: rest)) := by
  obtain ⟨h1, h2⟩ := fx_ix hi hj hn
  exact va_iald X.1 X.2.1 hE.1 hP q0 0 ha rfl h1 hdg (by rw [h2]; exact kk)
theorem fx_bald (X : CallFix p m c cc nL s args lw_all own) (hE : fx_K E s) (hP : va_P E.1 clA ws H) (q0 : Nat) {a n : Nat} {f : Nat → Int32} (ha : ws[q0]? = some (a, .inl (E.2 1, n, .inl f))) (j : Nat) {i : Int32} (hi : i = nI j) (hj : j < n) (hn : Nat.blt n 2147483648 = true) (hdg : decode cc pc = .ok (.baload, 1))
    (kk : W p l e R s m args below meth c H locs cells slots Q (F0 m (pc + 1) ls (.int (f j) :: rest))) : W p l e R s m args below meth c H locs cells slots Q (F0 m pc ls (.int i :: .ref a :: rest)) := by
  obtain ⟨h1, h2⟩ := fx_ix hi hj hn
  exact va_bald X.1 X.2.1 hE.1 hP q0 1 ha rfl h1 hdg (by rw [h2]; exact kk)
theorem fx_sald (X : CallFix p m c cc nL s args lw_all own) (hE : fx_K E s) (hP : va_P E.1 clA ws H) (q0 : Nat) {a n : Nat} {f : Nat → Int32} (ha : ws[q0]? = some (a, .inl (E.2 2, n, .inl f))) (j : Nat) {i : Int32} (hi : i = nI j) (hj : j < n) (hn : Nat.blt n 2147483648 = true) (hdg : decode cc pc = .ok (.saload, 1))
    (kk : W p l e R s m args below meth c H locs cells slots Q (F0 m (pc + 1) ls (.int (f j) :: rest))) : W p l e R s m args below meth c H locs cells slots Q (F0 m pc ls (.int i :: .ref a :: rest)) := by
  obtain ⟨h1, h2⟩ := fx_ix hi hj hn
  exact va_sald X.1 X.2.1 hE.1 hP q0 2 ha rfl h1 hdg (by rw [h2]; exact kk)
theorem fx_aald (X : CallFix p m c cc nL s args lw_all own) (hE : fx_K E s) (hP : va_P E.1 clA ws H) (q0 t0 : Nat) {C : String} (ht : (tyA E.2)[t0]? = some (E.2 t0, .object C)) {a n : Nat} {f : Nat → Option Nat} (ha : ws[q0]? = some (a, .inl (E.2 t0, n, .inr (.inr (.inr (.inr f)))))) (j : Nat) {i : Int32} (hi : i = nI j) (hj : j < n) (hn : Nat.blt n 2147483648 = true) {r : Option Nat} (hr : f j = r) (hdg : decode cc pc = .ok (.aaload, 1))
    (kk : W p l e R s m args below meth c H locs cells slots Q (F0 m (pc + 1) ls (va_rf r :: rest))) : W p l e R s m args below meth c H locs cells slots Q (F0 m pc ls (.int i :: .ref a :: rest)) := by
  obtain ⟨h1, h2⟩ := fx_ix hi hj hn
  exact va_aldq X.1 X.2.1 hE.1 hP q0 t0 ha ht h1 hdg (by rw [h2, hr]; exact kk)
theorem fx_iast (X : CallFix p m c cc nL s args lw_all own) (hE : fx_K E s) {H0 : Heap} (hP : va_P E.1 clA ws H) (hD : va_D A ws) (hS : va_S A H0 H locs) (q0 : Nat) {a n : Nat} {f : Nat → Int32} (ha : ws[q0]? = some (a, .inl (E.2 0, n, .inl f))) (j : Nat) {i x : Int32} (hi : i = nI j) (hj : j < n) (hn : Nat.blt n 2147483648 = true) {ws' : va_W} (hw : ws.set q0 (a, .inl (E.2 0, n, .inl (upd f j x))) = ws') (hdg : decode cc pc = .ok (.iastore, 1))
    (kk : ∀ (H1 : Heap) (locs1 : List Loc), va_P E.1 clA ws' H1 → va_D A ws' → va_S A H0 H1 locs1 → W p l e R s m args below meth c H1 locs1 cells slots Q (F0 m (pc + 1) ls rest)) : W p l e R s m args below meth c H locs cells slots Q (F0 m pc ls (.int x :: .int i :: .ref a :: rest)) := by
  obtain ⟨h1, h2⟩ := fx_ix hi hj hn
  subst hw
  exact va_iast X.1 X.2.1 hE.1 hP hD hS q0 0 ha rfl h1 hdg (by rw [h2]; exact kk)
theorem fx_bast (X : CallFix p m c cc nL s args lw_all own) (hE : fx_K E s) {H0 : Heap} (hP : va_P E.1 clA ws H) (hD : va_D A ws) (hS : va_S A H0 H locs) (q0 : Nat) {a n : Nat} {f : Nat → Int32} (ha : ws[q0]? = some (a, .inl (E.2 1, n, .inl f))) (j : Nat) {i x : Int32} (hi : i = nI j) (hj : j < n) (hn : Nat.blt n 2147483648 = true) {x' : Int32} (hx' : x.toInt8.toInt32 = x') {ws' : va_W} (hw : ws.set q0 (a, .inl (E.2 1, n, .inl (upd f j x'))) = ws') (hdg : decode cc pc = .ok (.bastore, 1))
    (kk : ∀ (H1 : Heap) (locs1 : List Loc), va_P E.1 clA ws' H1 → va_D A ws' → va_S A H0 H1 locs1 → W p l e R s m args below meth c H1 locs1 cells slots Q (F0 m (pc + 1) ls rest)) : W p l e R s m args below meth c H locs cells slots Q (F0 m pc ls (.int x :: .int i :: .ref a :: rest)) := by
  obtain ⟨h1, h2⟩ := fx_ix hi hj hn
  subst hw; subst hx'
  exact va_bast X.1 X.2.1 hE.1 hP hD hS q0 1 ha rfl h1 hdg (by rw [h2, vp_nar_byte]; exact kk)
theorem fx_sast (X : CallFix p m c cc nL s args lw_all own) (hE : fx_K E s) {H0 : Heap} (hP : va_P E.1 clA ws H) (hD : va_D A ws) (hS : va_S A H0 H locs) (q0 : Nat) {a n : Nat} {f : Nat → Int32} (ha : ws[q0]? = some (a, .inl (E.2 2, n, .inl f))) (j : Nat) {i x : Int32} (hi : i = nI j) (hj : j < n) (hn : Nat.blt n 2147483648 = true) {x' : Int32} (hx' : x.toInt16.toInt32 = x') {ws' : va_W} (hw : ws.set q0 (a, .inl (E.2 2, n, .inl (upd f j x'))) = ws') (hdg : decode cc pc = .ok (.sastore, 1))
    (kk : ∀ (H1 : Heap) (locs1 : List Loc), va_P E.1 clA ws' H1 → va_D A ws' → va_S A H0 H1 locs1 → W p l e R s m args below meth c H1 locs1 cells slots Q (F0 m (pc + 1) ls rest)) : W p l e R s m args below meth c H locs cells slots Q (F0 m pc ls (.int x :: .int i :: .ref a :: rest)) := by
  obtain ⟨h1, h2⟩ := fx_ix hi hj hn
  subst hw; subst hx'
  exact va_sast X.1 X.2.1 hE.1 hP hD hS q0 2 ha rfl h1 hdg (by rw [h2, vp_nar_short]; exact kk)
theorem fx_alen (X : CallFix p m c cc nL s args lw_all own) (hE : fx_K E s) (hP : va_P E.1 clA ws H) (q0 : Nat) {a n : Nat} (t0 : Nat) {z : (Nat → Int32) ⊕ (Nat → Int64) ⊕ (Nat → UInt32) ⊕ (Nat → UInt64) ⊕ (Nat → Option Nat)} (ha : ws[q0]? = some (a, .inl (E.2 t0, n, z))) {ty : FieldType} (ht : (tyA E.2)[t0]? = some (E.2 t0, ty)) (hdg : decode cc pc = .ok (.arraylength, 1))
    (kk : W p l e R s m args below meth c H locs cells slots Q (F0 m (pc + 1) ls (.int (nI n) :: rest))) : W p l e R s m args below meth c H locs cells slots Q (F0 m pc ls (.ref a :: rest)) :=
  va_alen X.1 X.2.1 hE.1 hP q0 t0 ha ht rfl hdg kk
/-- another word for the int on top -/
theorem fx_ti {x y : Int32} (h : x = y) (kk : W p l e R s m args below meth c H locs cells slots Q (F0 m pc ls (.int y :: rest))) : W p l e R s m args below meth c H locs cells slots Q (F0 m pc ls (.int x :: rest)) := h ▸ kk
theorem fx_tl {x y : Int64} (h : x = y) (kk : W p l e R s m args below meth c H locs cells slots Q (F0 m pc ls (.long y :: rest))) : W p l e R s m args below meth c H locs cells slots Q (F0 m pc ls (.long x :: rest)) := h ▸ kk
/-- calls that come back -/
theorem fx_ci {mc ms : Nat} {a : Array Value} {st0 : List Value} {wc : va_W} {S : Type} {post : Int32 → S → Prop} {w' : S → va_W} (hr : va_Run p l e R s m args below meth c H locs cells slots mc ms (F0 m pc ls st0) rest (va_Qi post (fx_B E (va_A wc H.size) w') (va_A wc H.size) a) (va_A wc H.size)) {H0 : Heap} (hP : va_P E.1 clA ws H) (hD : va_D A ws) (hS : va_S A H0 H locs) (hA : ∀ q, H0.size ≤ q → A q) (is : List Nat) (hn : va_nd is = true) (hC : is.map (fun i => ws[i]?) = wc.map some)
    (kk : ∀ (r : Int32) (u : S) (H1 : Heap) (locs1 : List Loc), post r u → va_P E.1 clA (fx_put ws is (w' u)) H1 → va_D A (fx_put ws is (w' u)) → va_S A H0 H1 locs1 → W p l e R s m args below meth c H1 locs1 (cells + mc) (slots + ms) Q (F0 m (pc + 3) ls (.int r :: rest))) : W p l e R s m args below meth c H locs cells slots Q (F0 m pc ls st0) := by
  have hF := fx_free hD hS hA is hC
  refine va_calli hr hS (fun q _ h => hF q h) hF (fun r u t H1 locs1 ht hvm hp hB hz hk hS1 => ?_)
  obtain ⟨b1, b2⟩ := hB
  rw [ht] at b1
  obtain ⟨j1, j2⟩ := fx_join hP hD is hC hn hk hF b1 b2
  exact kk r u H1 locs1 hp j1 j2 hS1
theorem fx_cl {mc ms : Nat} {a : Array Value} {st0 : List Value} {wc : va_W} {S : Type} {post : Int64 → S → Prop} {w' : S → va_W} (hr : va_Run p l e R s m args below meth c H locs cells slots mc ms (F0 m pc ls st0) rest (va_Ql post (fx_B E (va_A wc H.size) w') (va_A wc H.size) a) (va_A wc H.size)) {H0 : Heap} (hP : va_P E.1 clA ws H) (hD : va_D A ws) (hS : va_S A H0 H locs) (hA : ∀ q, H0.size ≤ q → A q) (is : List Nat) (hn : va_nd is = true) (hC : is.map (fun i => ws[i]?) = wc.map some)
    (kk : ∀ (r : Int64) (u : S) (H1 : Heap) (locs1 : List Loc), post r u → va_P E.1 clA (fx_put ws is (w' u)) H1 → va_D A (fx_put ws is (w' u)) → va_S A H0 H1 locs1 → W p l e R s m args below meth c H1 locs1 (cells + mc) (slots + ms) Q (F0 m (pc + 3) ls (.long r :: rest))) : W p l e R s m args below meth c H locs cells slots Q (F0 m pc ls st0) := by
  have hF := fx_free hD hS hA is hC
  refine va_calll hr hS (fun q _ h => hF q h) hF (fun r u t H1 locs1 ht hvm hp hB hz hk hS1 => ?_)
  obtain ⟨b1, b2⟩ := hB
  rw [ht] at b1
  obtain ⟨j1, j2⟩ := fx_join hP hD is hC hn hk hF b1 b2
  exact kk r u H1 locs1 hp j1 j2 hS1
theorem fx_cv {mc ms : Nat} {a : Array Value} {st0 : List Value} {wc : va_W} {S : Type} {post : S → Prop} {w' : S → va_W} (hr : va_Run p l e R s m args below meth c H locs cells slots mc ms (F0 m pc ls st0) rest (va_Qv post (fx_B E (va_A wc H.size) w') (va_A wc H.size) a) (va_A wc H.size)) {H0 : Heap} (hP : va_P E.1 clA ws H) (hD : va_D A ws) (hS : va_S A H0 H locs) (hA : ∀ q, H0.size ≤ q → A q) (is : List Nat) (hn : va_nd is = true) (hC : is.map (fun i => ws[i]?) = wc.map some)
    (kk : ∀ (u : S) (H1 : Heap) (locs1 : List Loc), post u → va_P E.1 clA (fx_put ws is (w' u)) H1 → va_D A (fx_put ws is (w' u)) → va_S A H0 H1 locs1 → W p l e R s m args below meth c H1 locs1 (cells + mc) (slots + ms) Q (F0 m (pc + 3) ls rest)) : W p l e R s m args below meth c H locs cells slots Q (F0 m pc ls st0) := by
  have hF := fx_free hD hS hA is hC
  refine va_callv hr hS (fun q _ h => hF q h) hF (fun u t H1 locs1 ht hvm hp hB hz hk hS1 => ?_)
  obtain ⟨b1, b2⟩ := hB
  rw [ht] at b1
  obtain ⟨j1, j2⟩ := fx_join hP hD is hC hn hk hF b1 b2
  exact kk u H1 locs1 hp j1 j2 hS1
theorem fx_cq {mc ms : Nat} {a : Array Value} {st0 : List Value} {wc : va_W} {S : Type} {post : Option Nat → S → Prop} {w' : S → va_W} (hr : va_Run p l e R s m args below meth c H locs cells slots mc ms (F0 m pc ls st0) rest (va_Qq post (fx_B E (va_A wc H.size) w') (va_A wc H.size) a) (va_A wc H.size)) {H0 : Heap} (hP : va_P E.1 clA ws H) (hD : va_D A ws) (hS : va_S A H0 H locs) (hA : ∀ q, H0.size ≤ q → A q) (is : List Nat) (hn : va_nd is = true) (hC : is.map (fun i => ws[i]?) = wc.map some)
    (kk : ∀ (r : Option Nat) (u : S) (H1 : Heap) (locs1 : List Loc), post r u → va_P E.1 clA (fx_put ws is (w' u)) H1 → va_D A (fx_put ws is (w' u)) → va_S A H0 H1 locs1 → W p l e R s m args below meth c H1 locs1 (cells + mc) (slots + ms) Q (F0 m (pc + 3) ls (va_rf r :: rest))) : W p l e R s m args below meth c H locs cells slots Q (F0 m pc ls st0) := by
  have hF := fx_free hD hS hA is hC
  refine va_callq hr hS (fun q _ h => hF q h) hF (fun r u t H1 locs1 ht hvm hp hB hz hk hS1 => ?_)
  obtain ⟨b1, b2⟩ := hB
  rw [ht] at b1
  obtain ⟨j1, j2⟩ := fx_join hP hD is hC hn hk hF b1 b2
  exact kk r u H1 locs1 hp j1 j2 hS1
end FX
/-- a method's start: the goal's end is a name, and what reaches it is told -/
theorem fx_iW {l : Launch} {y : MethodName} {cc : ByteArray} {nL : Nat} {rt : FieldType} {rm : Room} {E : fx_En} {av : List Value} {w Rl : va_W} {S : Type} {w' : S → va_W} {post : Int32 → S → Prop} (hy : plainName y.cls = true) (hav : Nat.ble (lg_sl av).length nL = true)
    (body : ∀ (p : Program) (e : Env) (s : State) (m : MethodId) (args : Array Value) (below : List Frame) (meth : Method) (c : Code) (A : Nat → Prop) (ls : Array Slot) (Q : State → Prop), CallFix p m c cc nL s args lw_all y.cls → fx_K E s → va_P E.1 clA w s.heap → va_D A w → fx_R E A Rl s.heap → (∀ q, s.heap.size ≤ q → A q) → lv_has ls nL (lv_args 0 av) →
      (∀ (v : Int32) (u : S) {H : Heap} {locs : List Loc} {cells slots pc : Nat} {ls : Array Slot}, post v u → narrow rt (.int v) = .int v → va_P E.1 clA (w' u) H → va_D A (w' u) → va_S A s.heap H locs → cells ≤ rm.cells → slots ≤ rm.slots → decode cc pc = .ok (.ireturn, 1) → W p l e rm s m args below meth c H locs cells slots Q (F0 m pc ls [.int v])) →
      W p l e rm s m args below meth c s.heap [] 0 0 Q (F0 m 0 ls [])) : fx_Mi l y cc nL rt rm E av w Rl w' post := by
  intro sz
  refine Met.ofW (cc := cc) (maxL := nL) (ret := some rt) hy rfl ?_
  intro p e s m args below meth c s₁ B hml hv
  obtain ⟨rfl, hsz, hP, hE, hD0, hR⟩ := hv
  have hts := atoms_spec (ws := ws_ y cc nL (some rt)) B.pre
  have hts : ∀ w ∈ lw_all, w.before _ s = true := fun w h => hts w (List.mem_cons_of_mem _ h)
  have hown : s.vm.findClass y.cls = some m.cls := findClass_of_methodNamed B.named
  have hlocks := B.notSynchronized
  have hr := B.returns
  have hD := hD0.self (sz := sz)
  have hl := lv_entry av (n := nL) (Nat.le_of_ble_eq_true hav)
  rw [lg_entry_eq]
  refine body p e s m _ below meth c (va_A w sz) _ _ ⟨B.exec, B.bytes, hml, hown, hts⟩ hE hP hD hR (fun q h => Or.inr (by rw [← hsz]; exact h)) hl ?_
  intro v u H locs cells slots pc ls hp hn hP' hD' hS hc hs hd
  refine W.widen hc hs ?_
  exact W.zret (v := v) B.exec B.bytes hr hn (fun t ht hW => ⟨⟨v, u, rfl, hp, by rw [ht]; exact hP', hD'⟩, hS.F ht⟩) hS.2.2 hd
theorem fx_lW {l : Launch} {y : MethodName} {cc : ByteArray} {nL : Nat} {rm : Room} {E : fx_En} {av : List Value} {w Rl : va_W} {S : Type} {w' : S → va_W} {post : Int64 → S → Prop} (hy : plainName y.cls = true) (hav : Nat.ble (lg_sl av).length nL = true)
    (body : ∀ (p : Program) (e : Env) (s : State) (m : MethodId) (args : Array Value) (below : List Frame) (meth : Method) (c : Code) (A : Nat → Prop) (ls : Array Slot) (Q : State → Prop), CallFix p m c cc nL s args lw_all y.cls → fx_K E s → va_P E.1 clA w s.heap → va_D A w → fx_R E A Rl s.heap → (∀ q, s.heap.size ≤ q → A q) → lv_has ls nL (lv_args 0 av) →
      (∀ (v : Int64) (u : S) {H : Heap} {locs : List Loc} {cells slots pc : Nat} {ls : Array Slot}, post v u → va_P E.1 clA (w' u) H → va_D A (w' u) → va_S A s.heap H locs → cells ≤ rm.cells → slots ≤ rm.slots → decode cc pc = .ok (.lreturn, 1) → W p l e rm s m args below meth c H locs cells slots Q (F0 m pc ls [.long v])) →
      W p l e rm s m args below meth c s.heap [] 0 0 Q (F0 m 0 ls [])) : fx_Ml l y cc nL rm E av w Rl w' post := by
  intro sz
  refine Met.ofW (cc := cc) (maxL := nL) (ret := some .long) hy rfl ?_
  intro p e s m args below meth c s₁ B hml hv
  obtain ⟨rfl, hsz, hP, hE, hD0, hR⟩ := hv
  have hts := atoms_spec (ws := ws_ y cc nL (some .long)) B.pre
  have hts : ∀ w ∈ lw_all, w.before _ s = true := fun w h => hts w (List.mem_cons_of_mem _ h)
  have hown : s.vm.findClass y.cls = some m.cls := findClass_of_methodNamed B.named
  have hlocks := B.notSynchronized
  have hr := B.returns
  have hD := hD0.self (sz := sz)
  have hl := lv_entry av (n := nL) (Nat.le_of_ble_eq_true hav)
  rw [lg_entry_eq]
  refine body p e s m _ below meth c (va_A w sz) _ _ ⟨B.exec, B.bytes, hml, hown, hts⟩ hE hP hD hR (fun q h => Or.inr (by rw [← hsz]; exact h)) hl ?_
  intro v u H locs cells slots pc ls hp hP' hD' hS hc hs hd
  refine W.widen hc hs ?_
  exact W.lret (v := v) B.exec B.bytes hr (fun t ht hW => ⟨⟨v, u, rfl, hp, by rw [ht]; exact hP', hD'⟩, hS.F ht⟩) hS.2.2 hd
theorem fx_vW {l : Launch} {y : MethodName} {cc : ByteArray} {nL : Nat} {rm : Room} {E : fx_En} {av : List Value} {w Rl : va_W} {S : Type} {w' : S → va_W} {post : S → Prop} (hy : plainName y.cls = true) (hav : Nat.ble (lg_sl av).length nL = true)
    (body : ∀ (p : Program) (e : Env) (s : State) (m : MethodId) (args : Array Value) (below : List Frame) (meth : Method) (c : Code) (A : Nat → Prop) (ls : Array Slot) (Q : State → Prop), CallFix p m c cc nL s args lw_all y.cls → meth.name = y.name → fx_K E s → va_P E.1 clA w s.heap → va_D A w → fx_R E A Rl s.heap → (∀ q, s.heap.size ≤ q → A q) → lv_has ls nL (lv_args 0 av) →
      (∀ (u : S) {H : Heap} {locs : List Loc} {cells slots pc : Nat} {ls : Array Slot}, post u → va_P E.1 clA (w' u) H → va_D A (w' u) → va_S A s.heap H locs → cells ≤ rm.cells → slots ≤ rm.slots → decode cc pc = .ok (.return_, 1) → W p l e rm s m args below meth c H locs cells slots Q (F0 m pc ls [])) →
      W p l e rm s m args below meth c s.heap [] 0 0 Q (F0 m 0 ls [])) : fx_Mv l y cc nL rm E av w Rl w' post := by
  intro sz
  refine Met.ofW (cc := cc) (maxL := nL) (ret := none) hy rfl ?_
  intro p e s m args below meth c s₁ B hml hv
  obtain ⟨rfl, hsz, hP, hE, hD0, hR⟩ := hv
  have hts := atoms_spec (ws := ws_ y cc nL none) B.pre
  have hts : ∀ w ∈ lw_all, w.before _ s = true := fun w h => hts w (List.mem_cons_of_mem _ h)
  have hown : s.vm.findClass y.cls = some m.cls := findClass_of_methodNamed B.named
  have hlocks := B.notSynchronized
  have hr := B.returns
  have hD := hD0.self (sz := sz)
  have hl := lv_entry av (n := nL) (Nat.le_of_ble_eq_true hav)
  rw [lg_entry_eq]
  refine body p e s m _ below meth c (va_A w sz) _ _ ⟨B.exec, B.bytes, hml, hown, hts⟩ (name_of_methodNamed B.named B.method).1 hE hP hD hR (fun q h => Or.inr (by rw [← hsz]; exact h)) hl ?_
  intro u H locs cells slots pc ls hp hP' hD' hS hc hs hd
  refine W.widen hc hs ?_
  exact W.vret B.exec B.bytes hr (fun t ht hW => ⟨⟨u, rfl, hp, by rw [ht]; exact hP', hD'⟩, hS.F ht⟩) hS.2.2 hd
theorem fx_qW {l : Launch} {y : MethodName} {cc : ByteArray} {nL : Nat} {rt : FieldType} {rm : Room} {E : fx_En} {av : List Value} {w Rl : va_W} {S : Type} {w' : S → va_W} {post : Option Nat → S → Prop} (hy : plainName y.cls = true) (hav : Nat.ble (lg_sl av).length nL = true) (hrt : (∃ n, rt = .object n) ∨ ∃ t, rt = .array t)
    (body : ∀ (p : Program) (e : Env) (s : State) (m : MethodId) (args : Array Value) (below : List Frame) (meth : Method) (c : Code) (A : Nat → Prop) (ls : Array Slot) (Q : State → Prop), CallFix p m c cc nL s args lw_all y.cls → fx_K E s → va_P E.1 clA w s.heap → va_D A w → fx_R E A Rl s.heap → (∀ q, s.heap.size ≤ q → A q) → lv_has ls nL (lv_args 0 av) →
      (∀ (v : Option Nat) (u : S) {H : Heap} {locs : List Loc} {cells slots pc : Nat} {ls : Array Slot}, post v u → va_P E.1 clA (w' u) H → va_D A (w' u) → va_S A s.heap H locs → cells ≤ rm.cells → slots ≤ rm.slots → decode cc pc = .ok (.areturn, 1) → W p l e rm s m args below meth c H locs cells slots Q (F0 m pc ls [va_rf v])) →
      W p l e rm s m args below meth c s.heap [] 0 0 Q (F0 m 0 ls [])) : fx_Mq l y cc nL rt rm E av w Rl w' post := by
  intro sz
  refine Met.ofW (cc := cc) (maxL := nL) (ret := some rt) hy rfl ?_
  intro p e s m args below meth c s₁ B hml hv
  obtain ⟨rfl, hsz, hP, hE, hD0, hR⟩ := hv
  have hts := atoms_spec (ws := ws_ y cc nL (some rt)) B.pre
  have hts : ∀ w ∈ lw_all, w.before _ s = true := fun w h => hts w (List.mem_cons_of_mem _ h)
  have hown : s.vm.findClass y.cls = some m.cls := findClass_of_methodNamed B.named
  have hlocks := B.notSynchronized
  have hr := B.returns
  have hD := hD0.self (sz := sz)
  have hl := lv_entry av (n := nL) (Nat.le_of_ble_eq_true hav)
  rw [lg_entry_eq]
  refine body p e s m _ below meth c (va_A w sz) _ _ ⟨B.exec, B.bytes, hml, hown, hts⟩ hE hP hD hR (fun q h => Or.inr (by rw [← hsz]; exact h)) hl ?_
  intro v u H locs cells slots pc ls hp hP' hD' hS hc hs hd
  refine W.widen hc hs ?_
  exact W.aret (v := va_rf v) B.exec B.bytes hr hrt (va_rf_or v) (fun t ht hW => ⟨⟨v, u, rfl, hp, by rw [ht]; exact hP', hD'⟩, hS.F ht⟩) hS.2.2 hd
def fx_b (P : Prop) [Decidable P] : Int32 := if P then 1 else 0
theorem fx_bc {P : Prop} [Decidable P] {r : Int32} (h : r = fx_b P) : (P ∧ r = 1) ∨ (¬ P ∧ r = 0) := by
  unfold fx_b at h
  split at h
  · exact Or.inl ⟨by assumption, h⟩
  · exact Or.inr ⟨by assumption, h⟩
theorem fx_preV {s : State} {H : Heap} {C : String} {b : Addr} {Pc : Array Value → State → Prop} {As : List Value} (h : FrameBlind Pc ∧ ∀ U : State, U.heap = H → s.WarmedH U.vm → Pc (Value.ref b :: As).toArray U) (hr : ∃ cellB : Cell, H[b]? = some cellB ∧ cellB.vm.isStatics = false ∧ s.vm.findClass C = some cellB.cls) : PreV s H C b Pc As := ⟨h.1, hr, h.2⟩
theorem lw_SU {own : String} {idx : Nat} {y : MethodName} {b : ByteArray} {L : Nat} {r : Option FieldType} (h1 : Cond.methodLink own idx y ∈ lw_all) (h2 : Cond.sameMethod y.cls y.cls y.name y.desc ∈ lw_all) (h3 : Cond.superclass own y.cls ∈ lw_all) (h4 : Cond.instanceMethod y ∈ lw_all) (h5 : Cond.initialized y.cls ∈ lw_all) (h6 : Cond.code y b L r ∈ lw_all) : GoodIn lw_all (va_wsSU own idx y (ws_ y b L r)) := by
  refine lw_app ?_ (lw_meth h6)
  intro w hw
  simp only [List.mem_cons, List.not_mem_nil, or_false] at hw
  rcases hw with e | e | e | e | e
  · rw [e]; exact h1
  · rw [e]; exact h2
  · rw [e]; exact h3
  · rw [e]; exact h4
  · rw [e]; exact h5
theorem fx_inc (t : Nat) : nI t + Int32.ofInt 1 = nI (t + 1) := nI_1 t
theorem fx_lt1 {a b : Nat} (h : nI a < nI b) (ha : a < 2147483648) (hb : b < 2147483648) : a < b := (nI_ltI ha hb).1 h
theorem fx_lt0 {a b : Nat} (h : ¬ nI a < nI b) (ha : a < 2147483648) (hb : b < 2147483648) : b ≤ a := Nat.le_of_not_lt fun q => h ((nI_ltI ha hb).2 q)
theorem fx_le1 {a b : Nat} (h : nI a ≤ nI b) (ha : a < 2147483648) (hb : b < 2147483648) : a ≤ b := (nI_leI ha hb).1 h
theorem fx_le0 {a b : Nat} (h : ¬ nI a ≤ nI b) (ha : a < 2147483648) (hb : b < 2147483648) : b < a := Nat.lt_of_not_le fun q => h ((nI_leI ha hb).2 q)
theorem fx_eq1 {a b : Nat} (h : nI a = nI b) (ha : a < 2147483648) (hb : b < 2147483648) : a = b := (nI_eq ha hb).1 h
theorem fx_eq0 {a b : Nat} (h : ¬ nI a = nI b) (ha : a < 2147483648) (hb : b < 2147483648) : a ≠ b := fun q => h ((nI_eq ha hb).2 q)
theorem pk_bidem (x : Int32) : x.toInt8.toInt32.toInt8.toInt32 = x.toInt8.toInt32 := by simp
theorem pk_sidem (x : Int32) : x.toInt16.toInt32.toInt16.toInt32 = x.toInt16.toInt32 := by simp
def mx_i (x y : Int32) : Int32 := if x < y then y else x
def mn_i (x y : Int32) : Int32 := if y < x then y else x
theorem fx_raC {E : fx_En} {s : State} (hE : fx_K E s) (k : Nat) (q : ClassId × FieldType) (h : (tyA E.2)[k]? = some q) : ArrOfT s q.1 q.2 ∧ va_RA s q.1 q.2 := hE.1.2 k q h
section FX2
variable {p : Program} {l : Launch} {e : Env} {R : Room} {s : State} {m : MethodId} {args : Array Value} {below : List Frame} {meth : Method} {c : Code} {H : Heap} {locs : List Loc} {cells slots : Nat} {Q : State → Prop}
variable {own : String} {cc : ByteArray} {nL : Nat} {pc : Nat} {ls : Array Slot} {rest : List Value} {E : fx_En} {A : Nat → Prop} {ws : va_W}
theorem fx_max (X : CallFix p m c cc nL s args lw_all own) (hl : ls.size = nL) {idx : Nat} (h1 : Cond.methodLink own idx Lib.Math.max.name ∈ lw_all) (hR : 1 ≤ R.frames ∧ (rest.map fun v => v.category).sum + 13 ≤ R.locals) (hc : cells ≤ R.cells) (hs : slots ≤ R.slots) {x y : Int32} (hdg : decode cc pc = .ok (.invokestatic idx, 3))
    (kk : W p l e R s m args below meth c H locs cells slots Q (F0 m (pc + 3) ls (.int (mx_i x y) :: rest))) : W p l e R s m args below meth c H locs cells slots Q (F0 m pc ls (.int y :: .int x :: rest)) :=
  va_mmax X.1 X.2.1 (X.2.2.1.trans hl.symm) X.2.2.2.1 (X.2.2.2.2 _ h1) (X.2.2.2.2 _ q330) (X.2.2.2.2 _ q76) (X.2.2.2.2 _ q331) hR.1 hR.2 hc hs hdg kk
theorem fx_min (X : CallFix p m c cc nL s args lw_all own) (hl : ls.size = nL) {idx : Nat} (h1 : Cond.methodLink own idx Lib.Math.min.name ∈ lw_all) (hR : 1 ≤ R.frames ∧ (rest.map fun v => v.category).sum + 13 ≤ R.locals) (hc : cells ≤ R.cells) (hs : slots ≤ R.slots) {x y : Int32} (hdg : decode cc pc = .ok (.invokestatic idx, 3))
    (kk : W p l e R s m args below meth c H locs cells slots Q (F0 m (pc + 3) ls (.int (mn_i x y) :: rest))) : W p l e R s m args below meth c H locs cells slots Q (F0 m pc ls (.int y :: .int x :: rest)) :=
  va_mmin X.1 X.2.1 (X.2.2.1.trans hl.symm) X.2.2.2.1 (X.2.2.2.2 _ h1) (X.2.2.2.2 _ q327) (X.2.2.2.2 _ q76) (X.2.2.2.2 _ q328) hR.1 hR.2 hc hs hdg kk
theorem fx_new (X : CallFix p m c cc nL s args lw_all own) (hE : fx_K E s) {H0 : Heap} (hP : va_P E.1 clA ws H) (hD : va_D A ws) (hS : va_S A H0 H locs) (hA : ∀ q, H0.size ≤ q → A q) {ci : Nat} {C : String} {T : u_T} {N : Nat} (hc : clA[ci]? = some (C, T, N)) {ty : Nat → FieldType} (hty : ∀ k, k < N → parseFieldDescriptor (T k).2.2.1 = some (ty k)) {idx : Nat} (h1 : Cond.classLink own idx C ∈ lw_all) (h2 : Cond.instantiable C N ∈ lw_all) (h3 : Cond.initialized C ∈ lw_all) {fs : List Value} (hfs : ∀ j, j < N → defaultValue (ty j) = vp_V fs j) (hcells : cells + 1 ≤ R.cells) (hslots : slots + N ≤ R.slots) (hdg : decode cc pc = .ok (.new idx, 3))
    (kk : ∀ (q : Nat) (H1 : Heap), va_P E.1 clA (ws ++ [(q, .inr (ci, fs))]) H1 → va_D A (ws ++ [(q, .inr (ci, fs))]) → va_S A H0 H1 locs → W p l e R s m args below meth c H1 locs (cells + 1) (slots + N) Q (F0 m (pc + 3) ls (.ref q :: rest))) : W p l e R s m args below meth c H locs cells slots Q (F0 m pc ls rest) :=
  va_new X.1 X.2.1 X.2.2.2.2 (inA hc) ty hty X.2.2.2.1 (X.2.2.2.2 _ h1) (X.2.2.2.2 _ h2) (X.2.2.2.2 _ h3) hE.1 hP hD hS hA hc hfs hcells hslots hdg kk
theorem fx_newa0 (X : CallFix p m c cc nL s args lw_all own) (hE : fx_K E s) {H0 : Heap} (hP : va_P E.1 clA ws H) (hD : va_D A ws) (hS : va_S A H0 H locs) (hA : ∀ q, H0.size ≤ q → A q) (hq : Cond.arrayClass .int ∈ lw_all) {n : Int32} {N : Nat} (hn : n = nI N) (hN : Nat.blt N 1000 = true) (hcells : cells + 1 ≤ R.cells) (hslots : slots + N ≤ R.slots) (hdg : decode cc pc = .ok (.newarray .int, 2))
    (kk : ∀ (q : Nat) (H1 : Heap), va_P E.1 clA (ws ++ [(q, .inl (E.2 0, N, .inl (fun _ => 0)))]) H1 → va_D A (ws ++ [(q, .inl (E.2 0, N, .inl (fun _ => 0)))]) → va_S A H0 H1 locs → W p l e R s m args below meth c H1 locs (cells + 1) (slots + N) Q (F0 m (pc + 2) ls (.ref q :: rest))) : W p l e R s m args below meth c H locs cells slots Q (F0 m pc ls (.int n :: rest)) := by
  have hN' : N < 1000 := by simpa [Nat.blt_eq] using hN
  subst hn
  refine va_newa X.1 X.2.1 (atype := .int) (X.2.2.2.2 _ hq) rfl hE.1 hP hD hS hA (a0 := (N, .inl (fun _ => 0))) (fun cA => rfl) (nI_pos (by omega)) (nI_clamp (by omega)) (by show N * 4 ≤ _; omega) hcells hslots hdg (fun q cA H1 hK hP hD hS => ?_)
  have h1 := (hK.2 (tyA E.2).length (cA, .int) (by simp; rfl)).2
  have h2 := (fx_raC hE 0 (E.2 0, .int) rfl).2
  have : cA = E.2 0 := Option.some.inj (h1.symm.trans h2)
  subst this
  exact kk q H1 hP hD hS
theorem fx_newa1 (X : CallFix p m c cc nL s args lw_all own) (hE : fx_K E s) {H0 : Heap} (hP : va_P E.1 clA ws H) (hD : va_D A ws) (hS : va_S A H0 H locs) (hA : ∀ q, H0.size ≤ q → A q) (hq : Cond.arrayClass .byte ∈ lw_all) {n : Int32} {N : Nat} (hn : n = nI N) (hN : Nat.blt N 1000 = true) (hcells : cells + 1 ≤ R.cells) (hslots : slots + N ≤ R.slots) (hdg : decode cc pc = .ok (.newarray .byte, 2))
    (kk : ∀ (q : Nat) (H1 : Heap), va_P E.1 clA (ws ++ [(q, .inl (E.2 1, N, .inl (fun _ => 0)))]) H1 → va_D A (ws ++ [(q, .inl (E.2 1, N, .inl (fun _ => 0)))]) → va_S A H0 H1 locs → W p l e R s m args below meth c H1 locs (cells + 1) (slots + N) Q (F0 m (pc + 2) ls (.ref q :: rest))) : W p l e R s m args below meth c H locs cells slots Q (F0 m pc ls (.int n :: rest)) := by
  have hN' : N < 1000 := by simpa [Nat.blt_eq] using hN
  subst hn
  refine va_newa X.1 X.2.1 (atype := .byte) (X.2.2.2.2 _ hq) rfl hE.1 hP hD hS hA (a0 := (N, .inl (fun _ => 0))) (fun cA => rfl) (nI_pos (by omega)) (nI_clamp (by omega)) (by show N * 1 ≤ _; omega) hcells hslots hdg (fun q cA H1 hK hP hD hS => ?_)
  have h1 := (hK.2 (tyA E.2).length (cA, .byte) (by simp; rfl)).2
  have h2 := (fx_raC hE 1 (E.2 1, .byte) rfl).2
  have : cA = E.2 1 := Option.some.inj (h1.symm.trans h2)
  subst this
  exact kk q H1 hP hD hS
theorem fx_newa2 (X : CallFix p m c cc nL s args lw_all own) (hE : fx_K E s) {H0 : Heap} (hP : va_P E.1 clA ws H) (hD : va_D A ws) (hS : va_S A H0 H locs) (hA : ∀ q, H0.size ≤ q → A q) (hq : Cond.arrayClass .short ∈ lw_all) {n : Int32} {N : Nat} (hn : n = nI N) (hN : Nat.blt N 1000 = true) (hcells : cells + 1 ≤ R.cells) (hslots : slots + N ≤ R.slots) (hdg : decode cc pc = .ok (.newarray .short, 2))
    (kk : ∀ (q : Nat) (H1 : Heap), va_P E.1 clA (ws ++ [(q, .inl (E.2 2, N, .inl (fun _ => 0)))]) H1 → va_D A (ws ++ [(q, .inl (E.2 2, N, .inl (fun _ => 0)))]) → va_S A H0 H1 locs → W p l e R s m args below meth c H1 locs (cells + 1) (slots + N) Q (F0 m (pc + 2) ls (.ref q :: rest))) : W p l e R s m args below meth c H locs cells slots Q (F0 m pc ls (.int n :: rest)) := by
  have hN' : N < 1000 := by simpa [Nat.blt_eq] using hN
  subst hn
  refine va_newa X.1 X.2.1 (atype := .short) (X.2.2.2.2 _ hq) rfl hE.1 hP hD hS hA (a0 := (N, .inl (fun _ => 0))) (fun cA => rfl) (nI_pos (by omega)) (nI_clamp (by omega)) (by show N * 2 ≤ _; omega) hcells hslots hdg (fun q cA H1 hK hP hD hS => ?_)
  have h1 := (hK.2 (tyA E.2).length (cA, .short) (by simp; rfl)).2
  have h2 := (fx_raC hE 2 (E.2 2, .short) rfl).2
  have : cA = E.2 2 := Option.some.inj (h1.symm.trans h2)
  subst this
  exact kk q H1 hP hD hS
theorem fx_raO {s : State} {cA cB : ClassId} {C : String} (h1 : va_RA s cA (.object C)) (h2 : va_RA s cB (.object C)) : cA = cB := by
  obtain ⟨_, _, _, _, _, a⟩ := h1
  obtain ⟨_, _, _, _, _, b⟩ := h2
  exact Option.some.inj (a.symm.trans b)
theorem fx_newq3 (X : CallFix p m c cc nL s args lw_all own) (hE : fx_K E s) {H0 : Heap} (hP : va_P E.1 clA ws H) (hD : va_D A ws) (hS : va_S A H0 H locs) (hA : ∀ q, H0.size ≤ q → A q) {idx : Nat} (hq : Cond.classLink own idx RX2 ∈ lw_all) {n : Int32} {N : Nat} (hn : n = nI N) (hN : Nat.blt N 1000 = true) (hcells : cells + 1 ≤ R.cells) (hslots : slots + N ≤ R.slots) (hdg : decode cc pc = .ok (.anewarray idx, 3))
    (kk : ∀ (q : Nat) (H1 : Heap), va_P E.1 clA (ws ++ [(q, .inl (E.2 3, N, .inr (.inr (.inr (.inr (fun _ => none))))))]) H1 → va_D A (ws ++ [(q, .inl (E.2 3, N, .inr (.inr (.inr (.inr (fun _ => none))))))]) → va_S A H0 H1 locs → W p l e R s m args below meth c H1 locs (cells + 1) (slots + N) Q (F0 m (pc + 3) ls (.ref q :: rest))) : W p l e R s m args below meth c H locs cells slots Q (F0 m pc ls (.int n :: rest)) := by
  have hN' : N < 1000 := by simpa [Nat.blt_eq] using hN
  subst hn
  refine va_newq X.1 X.2.1 X.2.2.2.1 (X.2.2.2.2 _ hq) hE.2.2.1.1 hE.1 hP hD hS hA (nI_pos (by omega)) (nI_clamp (by omega)) (by omega) hcells hslots hdg (fun q cA H1 hK hP hD hS => ?_)
  have h1 := (hK.2 (tyA E.2).length (cA, .object RX2) (by simp)).2
  have h2 := (fx_raC hE 3 (E.2 3, .object RX2) rfl).2
  have : cA = E.2 3 := fx_raO h1 h2
  subst this
  exact kk q H1 hP hD hS
theorem fx_newq4 (X : CallFix p m c cc nL s args lw_all own) (hE : fx_K E s) {H0 : Heap} (hP : va_P E.1 clA ws H) (hD : va_D A ws) (hS : va_S A H0 H locs) (hA : ∀ q, H0.size ≤ q → A q) {idx : Nat} (hq : Cond.classLink own idx RX14 ∈ lw_all) {n : Int32} {N : Nat} (hn : n = nI N) (hN : Nat.blt N 1000 = true) (hcells : cells + 1 ≤ R.cells) (hslots : slots + N ≤ R.slots) (hdg : decode cc pc = .ok (.anewarray idx, 3))
    (kk : ∀ (q : Nat) (H1 : Heap), va_P E.1 clA (ws ++ [(q, .inl (E.2 4, N, .inr (.inr (.inr (.inr (fun _ => none))))))]) H1 → va_D A (ws ++ [(q, .inl (E.2 4, N, .inr (.inr (.inr (.inr (fun _ => none))))))]) → va_S A H0 H1 locs → W p l e R s m args below meth c H1 locs (cells + 1) (slots + N) Q (F0 m (pc + 3) ls (.ref q :: rest))) : W p l e R s m args below meth c H locs cells slots Q (F0 m pc ls (.int n :: rest)) := by
  have hN' : N < 1000 := by simpa [Nat.blt_eq] using hN
  subst hn
  refine va_newq X.1 X.2.1 X.2.2.2.1 (X.2.2.2.2 _ hq) hE.2.2.1.2 hE.1 hP hD hS hA (nI_pos (by omega)) (nI_clamp (by omega)) (by omega) hcells hslots hdg (fun q cA H1 hK hP hD hS => ?_)
  have h1 := (hK.2 (tyA E.2).length (cA, .object RX14) (by simp)).2
  have h2 := (fx_raC hE 4 (E.2 4, .object RX14) rfl).2
  have : cA = E.2 4 := fx_raO h1 h2
  subst this
  exact kk q H1 hP hD hS
theorem fx_castY (X : CallFix p m c cc nL s args lw_all own) (hE : fx_K E s) (hP : va_P E.1 clA ws H) (q0 : Nat) {a ci : Nat} {fs : List Value} (he : ws[q0]? = some (a, .inr (ci, fs))) {q : vw_C} (hc : clA[ci]? = some q) {idx : Nat} {nm : String} (h1 : Cond.classLink own idx nm ∈ lw_all) (j : Nat) (hj : nwA[j]? = some (Cond.castable q.1 nm)) (hdg : decode cc pc = .ok (.checkcast idx, 3))
    (kk : W p l e R s m args below meth c H locs cells slots Q (F0 m (pc + 3) ls (.ref a :: rest))) : W p l e R s m args below meth c H locs cells slots Q (F0 m pc ls (.ref a :: rest)) :=
  va_castY X.1 X.2.1 X.2.2.2.1 (X.2.2.2.2 _ h1) (hE.2.1 _ (List.mem_of_getElem? hj)) (va_recv hE.1 hP hc he) hdg kk
theorem fx_castS (X : CallFix p m c cc nL s args lw_all own) (hE : fx_K E s) (hP : va_P E.1 clA ws H) (q0 : Nat) {a ci : Nat} {fs : List Value} (he : ws[q0]? = some (a, .inr (ci, fs))) {q : vw_C} (hc : clA[ci]? = some q) {idx : Nat} (h1 : Cond.classLink own idx q.1 ∈ lw_all) (hdg : decode cc pc = .ok (.checkcast idx, 3))
    (kk : W p l e R s m args below meth c H locs cells slots Q (F0 m (pc + 3) ls (.ref a :: rest))) : W p l e R s m args below meth c H locs cells slots Q (F0 m pc ls (.ref a :: rest)) :=
  va_castS X.1 X.2.1 X.2.2.2.1 (X.2.2.2.2 _ h1) (hE.1.1 ci q hc).2 (va_recv hE.1 hP hc he) hdg kk
theorem fx_castA (X : CallFix p m c cc nL s args lw_all own) (hE : fx_K E s) (hP : va_P E.1 clA ws H) (q0 : Nat) {a t0 : Nat} {x : vp_A} (ha : ws[q0]? = some (a, .inl (E.2 t0, x))) {nm : String} (hnm : s.vm.findClass nm = some (E.2 t0)) {idx : Nat} (h1 : Cond.classLink own idx nm ∈ lw_all) (hdg : decode cc pc = .ok (.checkcast idx, 3))
    (kk : W p l e R s m args below meth c H locs cells slots Q (F0 m (pc + 3) ls (.ref a :: rest))) : W p l e R s m args below meth c H locs cells slots Q (F0 m pc ls (.ref a :: rest)) :=
  va_castA X.1 X.2.1 X.2.2.2.1 (X.2.2.2.2 _ h1) hP q0 ha hnm hdg kk
theorem fx_instY (X : CallFix p m c cc nL s args lw_all own) (hE : fx_K E s) (hP : va_P E.1 clA ws H) (q0 : Nat) {a ci : Nat} {fs : List Value} (he : ws[q0]? = some (a, .inr (ci, fs))) {q : vw_C} (hc : clA[ci]? = some q) {idx : Nat} {nm : String} (h1 : Cond.classLink own idx nm ∈ lw_all) (j : Nat) (hj : nwA[j]? = some (Cond.castable q.1 nm)) (hdg : decode cc pc = .ok (.instanceof idx, 3))
    (kk : W p l e R s m args below meth c H locs cells slots Q (F0 m (pc + 3) ls (.int 1 :: rest))) : W p l e R s m args below meth c H locs cells slots Q (F0 m pc ls (.ref a :: rest)) :=
  va_instY X.1 X.2.1 X.2.2.2.1 (X.2.2.2.2 _ h1) (hE.2.1 _ (List.mem_of_getElem? hj)) (va_recv hE.1 hP hc he) hdg kk
theorem fx_instS (X : CallFix p m c cc nL s args lw_all own) (hE : fx_K E s) (hP : va_P E.1 clA ws H) (q0 : Nat) {a ci : Nat} {fs : List Value} (he : ws[q0]? = some (a, .inr (ci, fs))) {q : vw_C} (hc : clA[ci]? = some q) {idx : Nat} (h1 : Cond.classLink own idx q.1 ∈ lw_all) (hdg : decode cc pc = .ok (.instanceof idx, 3))
    (kk : W p l e R s m args below meth c H locs cells slots Q (F0 m (pc + 3) ls (.int 1 :: rest))) : W p l e R s m args below meth c H locs cells slots Q (F0 m pc ls (.ref a :: rest)) :=
  va_instS X.1 X.2.1 X.2.2.2.1 (X.2.2.2.2 _ h1) (hE.1.1 ci q hc).2 (va_recv hE.1 hP hc he) hdg kk
theorem fx_instN (X : CallFix p m c cc nL s args lw_all own) (hE : fx_K E s) (hP : va_P E.1 clA ws H) (q0 : Nat) {a ci : Nat} {fs : List Value} (he : ws[q0]? = some (a, .inr (ci, fs))) {q : vw_C} (hc : clA[ci]? = some q) {idx : Nat} {nm : String} (h1 : Cond.classLink own idx nm ∈ lw_all) (j : Nat) (hj : ncA[j]? = some (q.1, nm)) (hdg : decode cc pc = .ok (.instanceof idx, 3))
    (kk : W p l e R s m args below meth c H locs cells slots Q (F0 m (pc + 3) ls (.int 0 :: rest))) : W p l e R s m args below meth c H locs cells slots Q (F0 m pc ls (.ref a :: rest)) :=
  va_instNo X.1 X.2.1 X.2.2.2.1 (X.2.2.2.2 _ h1) (hE.2.2.2.2 _ (List.mem_of_getElem? hj)) (va_recv hE.1 hP hc he) hdg kk
/-- an array's class by its name -/
theorem fx_arr (hP : va_P E.1 clA ws H) (q0 : Nat) {a t0 : Nat} {x : vp_A} (ha : ws[q0]? = some (a, .inl (E.2 t0, x))) {nm : String} (hnm : s.vm.findClass nm = some (E.2 t0)) : ∃ cell : Cell, H[a]? = some cell ∧ cell.vm.isStatics = false ∧ s.vm.findClass nm = some cell.cls := by
  refine ⟨_, hP q0 _ ha, ?_, ?_⟩
  · obtain ⟨n, f | f | f | f | f⟩ := x <;> rfl
  · rw [hnm]; obtain ⟨n, f | f | f | f | f⟩ := x <;> rfl
theorem fx_instA (X : CallFix p m c cc nL s args lw_all own) (hP : va_P E.1 clA ws H) (q0 : Nat) {a t0 : Nat} {x : vp_A} (ha : ws[q0]? = some (a, .inl (E.2 t0, x))) {nm : String} (hnm : s.vm.findClass nm = some (E.2 t0)) (hw : va_Nw (.castable nm nm) s) {idx : Nat} (h1 : Cond.classLink own idx nm ∈ lw_all) (hdg : decode cc pc = .ok (.instanceof idx, 3))
    (kk : W p l e R s m args below meth c H locs cells slots Q (F0 m (pc + 3) ls (.int 1 :: rest))) : W p l e R s m args below meth c H locs cells slots Q (F0 m pc ls (.ref a :: rest)) :=
  va_instY X.1 X.2.1 X.2.2.2.1 (X.2.2.2.2 _ h1) hw (fx_arr hP q0 ha hnm) hdg kk
theorem fx_instAN (X : CallFix p m c cc nL s args lw_all own) (hE : fx_K E s) (hP : va_P E.1 clA ws H) (q0 : Nat) {a t0 : Nat} {x : vp_A} (ha : ws[q0]? = some (a, .inl (E.2 t0, x))) {C : String} (hC : s.vm.findClass C = some (E.2 t0)) {idx : Nat} {nm : String} (h1 : Cond.classLink own idx nm ∈ lw_all) (j : Nat) (hj : ncA[j]? = some (C, nm)) (hdg : decode cc pc = .ok (.instanceof idx, 3))
    (kk : W p l e R s m args below meth c H locs cells slots Q (F0 m (pc + 3) ls (.int 0 :: rest))) : W p l e R s m args below meth c H locs cells slots Q (F0 m pc ls (.ref a :: rest)) :=
  va_instNo X.1 X.2.1 X.2.2.2.1 (X.2.2.2.2 _ h1) (hE.2.2.2.2 _ (List.mem_of_getElem? hj)) (fx_arr hP q0 ha hC) hdg kk
theorem fx_nmI (hE : fx_K E s) : s.vm.findClass "[I" = some (E.2 0) := va_nm_int (fx_raC hE 0 (E.2 0, .int) rfl).2
theorem fx_nmB (hE : fx_K E s) : s.vm.findClass "[B" = some (E.2 1) := va_nm_byte (fx_raC hE 1 (E.2 1, .byte) rfl).2
theorem fx_nmS (hE : fx_K E s) : s.vm.findClass "[S" = some (E.2 2) := va_nm_short (fx_raC hE 2 (E.2 2, .short) rfl).2
end FX2
