/-! ===== a layer over the kit's rows: abstract heaps, contracts in continuation form ===== -/
set_option maxRecDepth 100000
/-- a cell: its region (for the proof alone), its kind (a class of vwCl, or 100 + the array type), its contents -/
abbrev Obj : Type := Nat × Nat × List Value
/-- an abstract heap: what is known of its cells; its size -/
abbrev Hp : Type := (Nat → Option Obj) × Nat
/-- how a method ends: an answer, or the class of what it throws -/
abbrev Out : Type := Option Value ⊕ String
/-- a method: name, code, locals, answer, handlers -/
abbrev MD : Type := MethodName × ByteArray × Nat × Option FieldType × Option (List (Nat × Nat × Nat × Nat))
abbrev MD.y (M : MD) : MethodName := M.1
abbrev MD.code (M : MD) : ByteArray := M.2.1
abbrev MD.maxL (M : MD) : Nat := M.2.2.1
abbrev MD.ret (M : MD) : Option FieldType := M.2.2.2.1
abbrev MD.hh (M : MD) : Option (List (Nat × Nat × Nat × Nat)) := M.2.2.2.2
/-- what is fixed in a run: the launch, the state at the law's start, the classes' numbers, the array classes, the addresses of the kept Integers, what static fields hold -/
abbrev Wd : Type := Launch × State × va_G × (Nat → ClassId) × (Nat → Nat) × (Nat → Value)
abbrev Wd.l (Ω : Wd) : Launch := Ω.1
abbrev Wd.s0 (Ω : Wd) : State := Ω.2.1
abbrev Wd.D (Ω : Wd) : va_G := Ω.2.2.1
abbrev Wd.A (Ω : Wd) : Nat → ClassId := Ω.2.2.2.1
abbrev Wd.ad (Ω : Wd) : Nat → Nat := Ω.2.2.2.2.1
abbrev Wd.sv (Ω : Wd) : Nat → Value := Ω.2.2.2.2.2
/-- the size of the heap at the start: what lies from here on is ours -/
abbrev Wd.base (Ω : Wd) : Nat := Ω.s0.heap.size
abbrev Wd.own (Ω : Wd) : Nat → Prop := fun q => Ω.base ≤ q
def T0 : u_T := fun _ => ("", "", "", false)
/-- the classes whose objects are made -/
def vwCl : List vw_C := [(RX1, TX1, 7), (RX2, TX2, 13), (RX3, TX3, 5), (RX5, T0, 0), (RX12, T0, 0), (RX10, TX10, 4), (RX11, TX11, 7), (RX8, TX8, 1), (RX7, TX7, 3), (RX14, TX14, 4), (RX16, TX16, 2), (RX13, T0, 0), (RX15, T0, 0), (RX6, T0, 0), (RX9, TX9, 14), (RJ2, TJ2, 3), (RJ4, TJ4, 9), (RJ18, TJ18, 6), (RJ28, TJ28, 1), (RJ30, TJ30, 4), (RJ33, TJ33, 4), (RJ6, TJ6, 4), (RJ12, TJ12, 1)]
/-- the array types: kind 100 + place; from 107 on: arrays that are only read -/
def tysOf (A : Nat → ClassId) : List (ClassId × FieldType) := [(A 0, .int), (A 1, .byte), (A 2, .long), (A 3, .object "java/lang/Object"), (A 4, .object "CourierClash$Courier"), (A 5, .object "CourierClash$Vehicle"), (A 6, .object "CourierClash$Bicycle"), (A 0, .int), (A 3, .object "java/lang/Object")]
/-- a cell that was there before the law began: it is only read -/
def ckRO (Ω : Wd) (a : Nat) (o : Obj) : Prop :=
  (∃ (r : vw_C) (cell : Cell), o.2.1 = 22 ∧ vwCl[o.2.1]? = some r ∧ r.2.2 = o.2.2.length ∧ Ω.s0.heap[a]? = some cell ∧ cell.cls = Ω.D.1 o.2.1 ∧ cell.vm.isStatics = false ∧ cell.vm ≠ .unknown ∧ ∀ i, i < r.2.2 → cell.slots[Ω.D.2 o.2.1 i]? = some (vp_V o.2.2 i)) ∨
  (∃ (j : Nat) (q : ClassId × FieldType) (cell : Cell), o.2.1 = 100 + j ∧ 7 ≤ j ∧ (tysOf Ω.A)[j]? = some q ∧ Ω.s0.heap[a]? = some cell ∧ Ω.s0.isArrayOf cell q.2 ∧ cell.vm ≠ .unknown ∧ cell.slots.size = o.2.2.length ∧ ∀ i, i < o.2.2.length → cell.slots[i]? = some (vp_V o.2.2 i))
/-- the machine's cell at a is o -/
def ckOK (Ω : Wd) (H : Heap) (a : Nat) (o : Obj) : Prop :=
  (Ω.base ≤ a ∧ ∃ r : vw_C, o.2.1 ≠ 22 ∧ vwCl[o.2.1]? = some r ∧ r.2.2 = o.2.2.length ∧ t_OB a (Ω.D.1 o.2.1) r.2.2 (Ω.D.2 o.2.1) H (vp_V o.2.2)) ∨
  (Ω.base ≤ a ∧ ∃ (j : Nat) (q : ClassId × FieldType), o.2.1 = 100 + j ∧ j < 7 ∧ (tysOf Ω.A)[j]? = some q ∧ H[a]? = some (arrV q.1 o.2.2.length (vp_V o.2.2))) ∨
  (a < Ω.base ∧ ckRO Ω a o)
/-- the machine's heap H holds what h says -/
def Rel (Ω : Wd) (h : Hp) (H : Heap) : Prop :=
  h.2 = H.size ∧ Ω.base ≤ H.size ∧ (∀ q : Nat, q < Ω.base → H[q]? = Ω.s0.heap[q]?) ∧ ∀ (a : Nat) (o : Obj), h.1 a = some o → ckOK Ω H a o
/-- words that ride beside the lists -/
def isNw : Cond → Bool
  | .fieldLinkNest .. => true
  | .methodLinkNest .. => true
  | .declares _ => true
  | .castable _ _ => true
  | _ => false
theorem isNw.tab {w : Cond} (h : isNw w = true) : w.onTables = true := by
  cases w <;> first | rfl | cases h
theorem isNw.moved {w : Cond} (h : isNw w = true) {s U : State} (hW : s.WarmedH U.vm) (hw : va_Nw w s) : va_Nw w U := by
  cases w <;> first | exact va_Nw.warmF hW hw | exact va_Nw.warmM hW hw | exact va_Nw.warmD hW hw | exact va_Nw.warmC hW hw | cases h
/-- interface calls: the receiver's class, the method named, the method that runs -/
def fwL : List (String × MethodName × MethodName) :=
  [("CourierClash$1", ⟨"java/util/Comparator", "compare", "(Ljava/lang/Object;Ljava/lang/Object;)I"⟩, ⟨"CourierClash$1", "compare", "(Ljava/lang/Object;Ljava/lang/Object;)I"⟩),
   ("CourierClash$2", ⟨"java/util/Comparator", "compare", "(Ljava/lang/Object;Ljava/lang/Object;)I"⟩, ⟨"CourierClash$2", "compare", "(Ljava/lang/Object;Ljava/lang/Object;)I"⟩),
   ("CourierClash$3", ⟨"java/util/Comparator", "compare", "(Ljava/lang/Object;Ljava/lang/Object;)I"⟩, ⟨"CourierClash$3", "compare", "(Ljava/lang/Object;Ljava/lang/Object;)I"⟩),
   ("java/util/TreeMap$KeySet", ⟨"java/util/Set", "iterator", "()Ljava/util/Iterator;"⟩, ⟨"java/util/TreeMap$KeySet", "iterator", "()Ljava/util/Iterator;"⟩),
   ("java/util/TreeMap$KeyIterator", ⟨"java/util/Iterator", "next", "()Ljava/lang/Object;"⟩, ⟨"java/util/TreeMap$KeyIterator", "next", "()Ljava/lang/Object;"⟩),
   ("java/util/TreeMap$KeyIterator", ⟨"java/util/Iterator", "hasNext", "()Z"⟩, ⟨"java/util/TreeMap$PrivateEntryIterator", "hasNext", "()Z"⟩)]
/-- classes that are not castable -/
def ncL : List (String × String) :=
  [("CourierClash$Van", "CourierClash$Bicycle"), ("java/lang/IllegalArgumentException", "java/lang/IndexOutOfBoundsException"), ("java/lang/IllegalStateException", "java/lang/IndexOutOfBoundsException"), ("java/lang/IllegalStateException", "java/lang/IllegalArgumentException")]
/-- arrays that are made -/
def aoL : List String := ["java/lang/Object", "CourierClash$Courier", "CourierClash$Vehicle", "CourierClash$Bicycle"]
/-- static fields that are read: class, name, descriptor, what they hold -/
def szL (Ω : Wd) : List (String × String × String × Value) :=
  [("java/lang/String", "COMPACT_STRINGS", "Z", .int 1), ("java/lang/Integer$IntegerCache", "high", "I", .int 127), ("java/util/ArrayList", "DEFAULTCAPACITY_EMPTY_ELEMENTDATA", "[Ljava/lang/Object;", Ω.sv 0), ("java/lang/Integer$IntegerCache", "cache", "[Ljava/lang/Integer;", Ω.sv 1), ("jdk/internal/util/Preconditions", "SIOOBE_FORMATTER", "Ljava/util/function/BiFunction;", Ω.sv 2)]
/-- what holds at the law's start, and all through the run -/
def W0 (Ω : Wd) : Prop :=
  Ω.l.stackTraces = false ∧ va_K Ω.D vwCl (tysOf Ω.A) Ω.s0 ∧ (∀ w ∈ lw_tbl, isNw w = true → va_Nw w Ω.s0) ∧ (∀ C ∈ aoL, va_AO C Ω.s0) ∧ (∀ q ∈ fwL, va_Fw q.1 q.2.1 q.2.2 Ω.s0) ∧ (∀ q ∈ ncL, va_Nc q.1 q.2 Ω.s0) ∧
  (∀ q ∈ szL Ω, va_Z q.1 q.2.1 q.2.2.1 q.2.2.2 Ω.own Ω.s0 Ω.s0.heap) ∧ vx_Zq Bundle.tN "UNASSIGNED_STACK" Bundle.steD Ω.own Ω.s0 Ω.s0.heap ∧ vx_Zq Bundle.tN "SUPPRESSED_SENTINEL" Bundle.listD Ω.own Ω.s0 Ω.s0.heap ∧
  (∃ tc : Nat, Ω.sv 1 = .ref tc ∧ va_T (.object "java/lang/Integer") tc 256 (fun k => .ref (Ω.ad k)) Ω.own Ω.s0 Ω.s0.heap) ∧ (∃ te : Nat, Ω.sv 0 = .ref te) ∧ (Ω.sv 2 = .null ∨ ∃ t : Nat, Ω.sv 2 = .ref t)
/-- the room of a call at depth d with budget r -/
def rmD (d r : Nat) : Room := { frames := 20 + d, cells := r, slots := 4 * r, locals := 11000 + 100 * d }
/-- a state of the run: the tables are those of the start, what lay there at the start lies there still -/
def Run0 (Ω : Wd) (U : State) : Prop := Ω.s0.WarmedH U.vm ∧ Ω.base ≤ U.heap.size ∧ ∀ q : Nat, q < Ω.base → U.heap[q]? = Ω.s0.heap[q]?
/-- what is known in a method's frame -/
def Cx (Ω : Wd) (M : MD) (d : Nat) (p : Program) (R : Room) (s : State) (m : MethodId) (args : Array Value) (meth : Method) (c : Code) : Prop :=
  W0 Ω ∧ p.tables.exec = Jvm.exec ∧ c.code = M.code ∧ c.maxLocals = M.maxL ∧ s.vm.findClass M.y.cls = some m.cls ∧ (∀ w ∈ lw_all, w.before args s = true) ∧ Run0 Ω s ∧ meth.locks = false ∧ 20 + d ≤ R.frames ∧ 11000 + 100 * d ≤ R.locals ∧ meth.name = M.y.name ∧
  (∀ hh, M.hh = some hh → c.exceptionTable.toList = tableOf hh) ∧ (M.hh = none → c.exceptionTable.toList = [])
/-- the answer is of the method's type -/
def rFit (ret : Option FieldType) (v : Option Value) : Prop := match v with
  | none => ret = none
  | some (.int x) => ∃ ty, ret = some ty ∧ narrow ty (.int x) = .int x
  | some (.long _) => ret = some .long
  | some (.float _) => ret = some .float
  | some (.double _) => ret = some .double
  | some .null => ∃ ty, ret = some ty ∧ ((∃ n, ty = .object n) ∨ ∃ t, ty = .array t)
  | some (.ref _) => ∃ ty, ret = some ty ∧ ((∃ n, ty = .object n) ∨ ∃ t, ty = .array t)
  | some (.retAddr _) => False
def retI (v : Option Value) : Instr := match v with
  | none => .return_
  | some (.int _) => .ireturn
  | some (.long _) => .lreturn
  | some (.float _) => .freturn
  | some (.double _) => .dreturn
  | _ => .areturn
/-- how a frame may end -/
def FinO (Ω : Wd) (M : MD) (Q : Hp → Out → Prop) (p : Program) (e : Env) (R : Room) (s : State) (m : MethodId) (args : Array Value) (below : List Frame) (meth : Method) (c : Code) (Qf : State → Prop) : Prop :=
  (∀ (h : Hp) (v : Option Value) (H : Heap) (locs : List Loc) (cells slots pc : Nat) (ls : Array Slot), Rel Ω h H → Q h (.inl v) → (∀ z ∈ locs, Ω.base ≤ z.base) → cells ≤ R.cells → slots ≤ R.slots → rFit M.ret v → decode M.code pc = .ok (retI v, 1) →
    W p Ω.l e R s m args below meth c H locs cells slots Qf (F0 m pc ls v.toList)) ∧
  (∀ (h : Hp) (E : String) (q : Nat) (ce : Cell) (H : Heap) (locs : List Loc) (cells slots pc : Nat) (ls : Array Slot) (rest : List Value), Rel Ω h H → Q h (.inr E) → (∀ z ∈ locs, Ω.base ≤ z.base) → cells ≤ R.cells → slots ≤ R.slots → H[q]? = some ce → ce.vm = .none → s.vm.findClass E = some ce.cls →
    (∀ x ∈ c.exceptionTable.toList, covers x pc = false) → vx_W p Ω.l e R s m args below meth c H locs cells slots Qf (F0 m pc ls rest) q)
/-- the locals: what L says of them -/
def LR (M : MD) (ls : Array Slot) (L : List (Option Value)) : Prop := ls.size = M.maxL ∧ lv_wf ls ∧ ∀ (i : Nat) (v : Value), L[i]? = some (some v) → ls[i]? = some (.val v)
/-- in a frame of M at pc, with locals L, stack S, heap h, budget r and call depth d left: it ends as Q says -/
def At (Ω : Wd) (M : MD) (d r : Nat) (Q : Hp → Out → Prop) (pc : Nat) (L : List (Option Value)) (S : List Value) (h : Hp) : Prop :=
  ∀ (p : Program) (e : Env) (R : Room) (s : State) (m : MethodId) (args : Array Value) (below : List Frame) (meth : Method) (c : Code) (Qf : State → Prop), Cx Ω M d p R s m args meth c → FinO Ω M Q p e R s m args below meth c Qf →
    ∀ (H : Heap) (locs : List Loc) (cells slots : Nat) (ls : Array Slot), Rel Ω h H → (∀ z ∈ locs, Ω.base ≤ z.base) → cells + r ≤ R.cells → slots + 4 * r ≤ R.slots → LR M ls L → W p Ω.l e R s m args below meth c H locs cells slots Qf (F0 m pc ls S)
/-- a contract: called with args in h, within budget r and depth d, it ends as Q says -/
def wsOf (M : MD) : List Cond := (match M.hh with
  | none => Cond.code M.y M.code M.maxL M.ret
  | some hh => Cond.codeWith M.y M.code M.maxL M.ret hh) :: lw_all
def PcO (Ω : Wd) (args : List Value) (h : Hp) : Array Value → State → Prop := fun av U => av = args.toArray ∧ Rel Ω h U.heap ∧ Run0 Ω U ∧ W0 Ω
def QcO (Ω : Wd) (Q : Hp → Out → Prop) : Array Value → State → Outcome → State → Prop := fun _ _ o t => ∃ (v : Option Value) (h' : Hp), o = .returned v ∧ Rel Ω h' t.heap ∧ Q h' (.inl v)
def XcO (Ω : Wd) (Q : Hp → Out → Prop) : String → State → State → Prop := fun E _ t => ∃ h' : Hp, Rel Ω h' t.heap ∧ Q h' (.inr E)
def Ok (Ω : Wd) (M : MD) (d r : Nat) (args : List Value) (h : Hp) (Q : Hp → Out → Prop) : Prop :=
  vx_Met Ω.l M.y (wsOf M) (rmD d r) (PcO Ω args h) (QcO Ω Q) (XcO Ω Q) r (4 * r) Ω.own
