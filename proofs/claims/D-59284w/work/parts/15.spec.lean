/-! rules: Object.<init>, throws, handlers, interface calls -/
set_option maxRecDepth 100000
section
variable {p : Program} {l : Launch} {e : Env} {R : Room} {s : State} {m : MethodId} {args : Array Value} {below : List Frame} {meth : Method} {c : Code} {H : Heap} {locs : List Loc} {cells slots : Nat} {Q : State → Prop}
variable {ls : Array Slot} {rest : List Value}
/-- an exception of our own is made (follows the kit's vx_make0; what is known of the heap behind it is said more exactly) -/
theorem my_make0 {cc : ByteArray} {pc : Nat} (hexec : p.tables.exec = Jvm.exec) (hb : c.code = cc) (hl : l.stackTraces = false) {own cls : String} {names : List String} {ik ic : Nat} {A : Nat → Prop}
    (hown : s.vm.findClass own = some m.cls) (hcls : Bundle.fit cls = true) (hnames : ∀ n ∈ names, Bundle.fit n = true)
    (hk : (Cond.classLink own ik cls).before args s = true) (hini : (Cond.initialized cls).before args s = true) (hat : ∀ w ∈ vx_at0 own ic cls names, w.before args s = true)
    (hgood : ∀ w ∈ Cond.classLink own ik cls :: Cond.initialized cls :: vx_at0 own ic cls names, vx_ot w = true)
    (hU : vx_Zq Bundle.tN "UNASSIGNED_STACK" Bundle.steD A s s.heap) (hN : vx_Zq Bundle.tN "SUPPRESSED_SENTINEL" Bundle.listD A s s.heap) (hS : va_S A s.heap H locs) (hsize : ls.size = c.maxLocals)
    (d0 : decode cc pc = .ok (.new ik, 3)) (d3 : decode cc (pc + 3) = .ok (.dup, 1)) (d4 : decode cc (pc + 4) = .ok (.invokespecial ic, 3))
    (hRframes : names.length + 3 < R.frames) (hRlocals : (rest.map fun v => v.category).sum + (13 * (names.length + 1) + 42) ≤ R.locals) (hRcells : cells + 1 ≤ R.cells) (hRslots : slots + 6 ≤ R.slots)
    (kk : ∀ (q : Nat) (H1 : Heap) (ce : Cell), H1[q]? = some ce → ce.vm = .none → s.vm.findClass cls = some ce.cls → H.size ≤ H1.size → (∀ x : Nat, x < H.size → H1[x]? = H[x]?) → W p l e R s m args below meth c H1 locs (cells + 1) (slots + 6) Q (F0 m (pc + 7) ls (.ref q :: rest))) :
    W p l e R s m args below meth c H locs cells slots Q (F0 m pc ls rest) := by
  intro T hT X
  subst hT
  have htr : e.platform.stackTraces = false := (show e.platform.stackTraces = l.stackTraces by rw [X.admits.platform]).trans hl
  have Y := vx_rebase X (R' := { frames := R.frames, locals := R.locals, cells := 1, slots := 6 }) (Nat.le_refl _) (Nat.le_refl _) hRcells hRslots
  obtain ⟨s', hA'⟩ : ∃ z, z = (T.setVm s.vm).setFrames (.invoking m args :: below) := ⟨_, rfl⟩
  rw [← hA'] at Y
  have hvm : s'.vm = s.vm := by rw [hA']; rfl
  have hhp : s'.heap = T.heap := by rw [hA']; rfl
  have hW0 : s.WarmedH s'.vm := by rw [hvm]; exact State.WarmedH.refl s
  have hat' : ∀ w ∈ vx_at0 own ic cls names, w.before args s' = true := fun w hw => vx_ot_at hW0 hvm.symm (hgood w (List.mem_cons_of_mem _ (List.mem_cons_of_mem _ hw))) (hat w hw)
  have hk' : (Cond.classLink own ik cls).before args s' = true := vx_ot_at hW0 hvm.symm (hgood _ List.mem_cons_self) hk
  have hini' : (Cond.initialized cls).before args s' = true := vx_ot_at hW0 hvm.symm (hgood _ (List.mem_cons_of_mem _ List.mem_cons_self)) hini
  have hU' : vx_Zq Bundle.tN "UNASSIGNED_STACK" Bundle.steD A s' s'.heap := by rw [hhp]; exact vx_Zq.moved hW0.alike (hU.kept hS.2.1)
  have hN' : vx_Zq Bundle.tN "SUPPRESSED_SENTINEL" Bundle.listD A s' s'.heap := by rw [hhp]; exact vx_Zq.moved hW0.alike (hN.kept hS.2.1)
  have h : ∀ w ∈ Bundle.ownAtoms0 own ic cls names, w.before args s' = true := vx_own hat' (vx_isRefq hU'.1) (vx_isRefq hN'.1) hU'.2.word hN'.2.word
  have hown' : s'.vm.findClass own = some m.cls := by rw [hvm]; exact hown
  have hins : (Cond.instantiable cls 6).before args s' = true := h _ (by simp [Bundle.ownAtoms0])
  obtain ⟨vm₁, cX, kX, hfX, hkX, -, -, X₁, st1⟩ := Y.newCold hexec (own := own) (C := cls) (index := ik) (n := 6) hown' hk' hins hini'
    (g := F0 m pc ls rest) rfl (by rw [hb]; exact d0) (Nat.le_refl _) (Nat.le_refl _)
  generalize hT1 : (T.setVm vm₁).pushCell { cls := cX, slots := kX.instanceTypes.map defaultValue, vm := .none } = T1 at X₁ st1
  have hcat : (Value.ref T.heap.size).category = 1 := rfl
  have hcellA : T1.heap[T.heap.size]? = some (freshCell cX kX) := by rw [← hT1]; exact State.heap_pushCell_size _ _
  have d3' : decode c.code (pc + 3) = .ok (.dup, 1) := by rw [hb]; exact d3
  obtain ⟨V, ce, L, Z, hL, hlt, hcl9, hvm9, st⟩ := vx_ctorMade0 X₁ hexec htr (own := own) (cls := cls) (names := names) (ic := ic) hown' hcls hnames h (fun x hx => nomatch hx) hfX hkX hcellA (by rw [hhp]; exact Nat.le_refl _)
    (g := { method := m, pc := pc + 4, locals := ls, stack := .ref T.heap.size :: .ref T.heap.size :: rest, locked := none }) rfl hsize (rest := rest) rfl
    (by rw [hb]; exact d4) hRframes (by simp only [List.map_cons, List.sum_cons, hcat]; omega)
  have Z0 := Stand.forget (locs := []) Z (fun y hy => by rw [hL y hy, hhp]; exact Nat.le_refl _)
  obtain ⟨f1, f2⟩ := vx_frame Z0.same
  rw [hhp] at f1 f2
  have hcid : s.vm.findClass cls = some ce.cls := by
    rw [hcl9]
    rw [hvm] at hfX
    exact hfX
  have hh : (V.setCell T.heap.size ce).heap[T.heap.size]? = some ce := heapAt_setCell_self (s := V) ce hlt
  subst hA'
  have X5 := vx_back9 X Y Z0
  have X6 : Stand p l e R s m args below meth c (V.setCell T.heap.size ce) locs (cells + 1) (slots + 6) := { X5 with same := X5.same.mono (by omega) (by omega) }
  obtain ⟨t, a1, b1⟩ := kk T.heap.size (V.setCell T.heap.size ce).heap ce hh hvm9 hcid f1 (fun x hx => f2 x hx (fun z hz => nomatch hz)) _ rfl X6
  refine ⟨t, st1 _ ?_, b1⟩
  show Steps p.tables e below (T1.setTop { method := m, pc := pc + 3, locals := ls, stack := .ref T.heap.size :: rest, locked := none }) _
  jvm_step X₁.here [X₁.here.top, hexec, d3', Value.category]
  exact st _ a1
end
section
variable {Ω : Wd} {M : MD} {d r : Nat} {Q : Hp → Out → Prop} {pc : Nat} {L : List (Option Value)} {S : List Value} {h : Hp}
theorem R_objInit {i a : Nat} (hd : decode M.code pc = .ok (.invokespecial i, 3)) (hw : Cond.methodLink M.y.cls i Lib.objectInit ∈ lw_all) (h1 : Cond.instanceMethod Lib.objectInit ∈ lw_all) (h2 : Cond.code Lib.objectInit ⟨#[0xb1]⟩ 1 none ∈ lw_all) (h8 : (S.map fun v => v.category).sum ≤ 8) (kk : At Ω M d r Q (pc + 3) L S h) : At Ω M d r Q pc L (.ref a :: S) h := by
  intro p e R s m args below meth c Qf C F H locs cells slots ls hR hl hc hs hL
  have hfr := C.frames
  have hlo := C.locals
  exact W.objInit C.exec C.bytes C.owns (C.words _ hw) (C.words _ h1) (C.words _ h2) rfl (hL.1.trans C.maxl.symm) rfl hd (by omega) (by show 2 * 0 + _ + 12 ≤ _; omega) (kk p e R s m args below meth c Qf C F H locs cells slots ls hR hl hc hs hL)
/-- a cell that the layer says nothing of -/
def hjunk (h : Hp) (n : Nat) : Hp := (h.1, n)
theorem Rel.grow {H H1 : Heap} (hR : Rel Ω h H) (hz : H.size ≤ H1.size) (oq : ∀ q : Nat, q < H.size → H1[q]? = H[q]?) : Rel Ω (hjunk h H1.size) H1 := by
  refine ⟨rfl, Nat.le_trans hR.2.1 hz, fun q hq => by rw [oq q (by have := hR.2.1; omega)]; exact hR.2.2.1 q hq, fun a o ha => (hR.2.2.2 a o ha).kept (oq a (hR.lt ha))⟩
/-- the words of a list, among the tables' -/
def wordsOK (ws : List Cond) : Prop := (∀ w ∈ ws, w ∈ lw_tbl) ∧ (∀ w ∈ ws, (goodWord w || isNw w) = true)
theorem wordsOK.at {ws : List Cond} (hw : wordsOK ws) {p : Program} {R : Room} {s : State} {m : MethodId} {args : Array Value} {meth : Method} {c : Code} (C : Cx Ω M d p R s m args meth c) : ∀ w ∈ ws, w.before args s = true := by
  intro w h
  have h1 := hw.2 w h
  cases hg : goodWord w with
  | true => exact C.words _ (lw_g (hw.1 w h) hg)
  | false =>
    rw [hg, Bool.false_or] at h1
    exact va_Nw.use (isNw.tab h1) (C.nw (hw.1 w h) h1)
theorem wordsOK.ot {ws : List Cond} (hw : wordsOK ws) : ∀ w ∈ ws, vx_ot w = true := by
  intro w h
  have h1 := hw.2 w h
  cases hg : goodWord w with
  | true => simp [vx_ot, hg]
  | false =>
    rw [hg, Bool.false_or] at h1
    simp [vx_ot, isNw.tab h1]
def exSup : List String := ["java/lang/RuntimeException", "java/lang/Exception"]
theorem exSup_fit : ∀ n ∈ exSup, Bundle.fit n = true := by decide +kernel
theorem va_S_own {s : State} {H : Heap} {locs : List Loc} (hrun : Run0 Ω s) (hR : Rel Ω h H) (hl : ∀ z ∈ locs, Ω.base ≤ z.base) (hsz : s.heap.size ≤ H.size) : va_S Ω.own s.heap H locs :=
  ⟨hsz, fun q _ h2 => by
    have : q < Ω.base := Nat.lt_of_not_le h2
    rw [hR.2.2.1 q this, hrun.2.2 q this], hl⟩
/-- 'throw new E()' of our own code, in a method without handlers -/
theorem R_throw {ik ic : Nat} {E : String} (hd0 : decode M.code pc = .ok (.new ik, 3)) (hd3 : decode M.code (pc + 3) = .ok (.dup, 1)) (hd4 : decode M.code (pc + 4) = .ok (.invokespecial ic, 3)) (hd7 : decode M.code (pc + 7) = .ok (.athrow, 1)) (hno : M.hh = none) (hE : Bundle.fit E = true) (hw : wordsOK (Cond.classLink M.y.cls ik E :: Cond.initialized E :: vx_at0 M.y.cls ic E exSup)) (h8 : (S.map fun v => v.category).sum ≤ 8) (hr : 2 ≤ r) (hQ : ∀ n, Q (hjunk h n) (.inr E)) : At Ω M d r Q pc L S h := by
  intro p e R s m args below meth c Qf C F H locs cells slots ls hR hl hc hs hL
  have hfr := C.frames
  have hlo := C.locals
  have hat := hw.at C
  have hot := hw.ot
  intro T hT X
  have hsz : s.heap.size ≤ H.size := by rw [← hT]; exact X.same.2.1
  refine my_make0 (cc := M.code) C.exec C.bytes C.w0.1 C.owns hE exSup_fit (hat _ List.mem_cons_self) (hat _ (List.mem_cons_of_mem _ List.mem_cons_self)) (fun w hw' => hat w (List.mem_cons_of_mem _ (List.mem_cons_of_mem _ hw'))) hot C.zu C.zn (va_S_own C.run hR hl hsz) (hL.1.trans C.maxl.symm) hd0 hd3 hd4
    (by show 2 + 3 < _; omega) (by show _ + (13 * (2 + 1) + 42) ≤ _; omega) (by omega) (by omega) (fun q H1 ce e1 e2 e3 e4 e5 => ?_) T hT X
  refine vx_athrow C.exec C.bytes hd7 ?_
  exact F.2 (hjunk h H1.size) E q ce H1 locs (cells + 1) (slots + 6) (pc + 7) ls S (hR.grow e4 e5) (hQ _) hl (by omega) (by omega) e1 e2 e3 (fun x hx => by rw [C.noTable hno] at hx; cases hx)
end
/-! calls of methods with handlers; calls in a method with handlers; interface calls -/
def CN1 (N : MD) (n : Nat) : Prop := ∃ hh, N.hh = some hh ∧ Cond.codeWith N.y N.code N.maxL N.ret hh ∈ lw_all ∧ Cond.initialized N.y.cls ∈ lw_all ∧ (N.y.cls ≠ "java/lang/invoke/MethodHandle" ∧ N.y.cls ≠ "java/lang/invoke/VarHandle") ∧ N.maxL ≤ 80 ∧ (parseMethodDescriptor N.y.desc).map (fun d => d.parameters.length) = some n
def CVX (own : String) (i : Nat) (X : String) (N : MD) (n : Nat) : Prop := CN1 N n ∧ Cond.instanceMethod N.y ∈ lw_all ∧ Cond.methodLink own i N.y ∈ lw_all ∧ Cond.selects X N.y N.y ∈ lw_all
def CSX (own : String) (i : Nat) (N : MD) (n : Nat) : Prop := CN1 N n ∧ Cond.static N.y ∈ lw_all ∧ Cond.methodLink own i N.y ∈ lw_all
section
variable {Ω : Wd} {M : MD} {d r : Nat} {Q : Hp → Out → Prop} {h : Hp} {N : MD} {i n pc : Nat} {L : List (Option Value)} {S S0 As : List Value} {a : Nat} {o : Obj} {q : vw_C}
theorem CN1.B {p : Program} {R : Room} {s : State} {m : MethodId} {av : Array Value} {meth : Method} {c : Code} (C : Cx Ω M (d + 1) p R s m av meth c) (h : CN1 N n) (rc : Nat) : ∃ hh, ((rmD d rc).cells = rc ∧ (rmD d rc).slots = 4 * rc ∧ (rmD d rc).frames + 1 ≤ R.frames ∧ 8 + (N.maxL + 11) + (rmD d rc).locals ≤ R.locals ∧ (∀ w ∈ wsOf N, ∀ (a' : Array Value) (U : State), s.WarmedH U.vm → w.before a' U = true) ∧ Cond.codeWith N.y N.code N.maxL N.ret hh ∈ wsOf N) ∧ (Cond.codeWith N.y N.code N.maxL N.ret hh).before av s = true ∧ (Cond.initialized N.y.cls).before av s = true ∧ (N.y.cls ≠ "java/lang/invoke/MethodHandle" ∧ N.y.cls ≠ "java/lang/invoke/VarHandle") ∧ (∀ sig, parseMethodDescriptor N.y.desc = some sig → n = sig.parameters.length) := by
  obtain ⟨hh, h1, h2, h3, h4, h5, h6⟩ := h
  have hfr := C.frames
  have hlo := C.locals
  refine ⟨hh, ⟨rfl, rfl, by show 20 + d + 1 ≤ _; omega, by show 8 + (N.maxL + 11) + (11000 + 100 * d) ≤ _; omega, fun w hw => ?_, by unfold wsOf; rw [h1]; exact List.mem_cons_self⟩, C.words _ h2, C.words _ h3, h4, fun sig hsig => ?_⟩
  · unfold wsOf at hw
    rw [h1] at hw
    rcases List.mem_cons.mp hw with e | e
    · rw [e]; exact lw_keep C.words h2
    · exact lw_keep C.words e
  · rw [hsig] at h6
    exact (Option.some.inj h6).symm
theorem R_callVX (rc : Nat) (hd : decode M.code pc = .ok (.invokevirtual i, 3)) (hno : M.hh = none) (hv : CVX M.y.cls i q.1 N n) (ha : h.1 a = some o) (hq : vwCl[o.2.1]? = some q) (hn : As.length = n) (hS : As.reverse ++ .ref a :: S = S0) (h8 : (S.map fun v => v.category).sum ≤ 8) (hr : rc ≤ r) (hok : Ok Ω N d rc (.ref a :: As) h (kq Ω M (d + 1) (r - rc) Q (pc + 3) L S)) : At Ω M (d + 1) r Q pc L S0 h := by
  intro p e R s m args below meth c Qf C F H locs cells slots ls hR hl hc hs hL
  obtain ⟨h0, hin, hlk, hse⟩ := hv
  obtain ⟨hh, b1, b2, b3, b4, b5⟩ := h0.B C rc
  have hfix : CallFix p m c M.code M.maxL s args lw_all M.y.cls := ⟨C.exec, C.bytes, C.maxl, C.owns, C.words⟩
  have hpv : PreV s H q.1 a (PcO Ω (.ref a :: As) h) As := ⟨PcO.blind, hR.recv C.K ha hq, PcO.at hR C.run C.w0⟩
  have h8' : 2 * (F0 m pc ls S0).monitorRoom + (S.map fun v => v.category).sum ≤ 8 := lv_room h8
  refine run_go (S := S) (a := (Value.ref a :: As).toArray) C F hno hl hr hc hs hL ?_
  exact vx_runVX (g := F0 m pc ls S0) hfix hok ⟨b1, b2, b3, b4, b5, C.words _ hlk, C.words _ hin, C.words _ hse⟩ hpv rfl hn hL.1 hS.symm h8' hd ⟨by omega, by omega⟩
theorem R_callSX (rc : Nat) (hd : decode M.code pc = .ok (.invokestatic i, 3)) (hno : M.hh = none) (hv : CSX M.y.cls i N n) (hn : As.length = n) (hS : As.reverse ++ S = S0) (h8 : (S.map fun v => v.category).sum ≤ 8) (hr : rc ≤ r) (hok : Ok Ω N d rc As h (kq Ω M (d + 1) (r - rc) Q (pc + 3) L S)) : At Ω M (d + 1) r Q pc L S0 h := by
  intro p e R s m args below meth c Qf C F H locs cells slots ls hR hl hc hs hL
  obtain ⟨h0, hst, hlk⟩ := hv
  obtain ⟨hh, b1, b2, b3, b4, b5⟩ := h0.B C rc
  have hfix : CallFix p m c M.code M.maxL s args lw_all M.y.cls := ⟨C.exec, C.bytes, C.maxl, C.owns, C.words⟩
  have hpv : PreS s H (PcO Ω As h) As := ⟨PcO.blind, PcO.at hR C.run C.w0⟩
  have h8' : 2 * (F0 m pc ls S0).monitorRoom + (S.map fun v => v.category).sum ≤ 8 := lv_room h8
  refine run_go (S := S) (a := As.toArray) C F hno hl hr hc hs hL ?_
  exact vx_runSX (g := F0 m pc ls S0) hfix hok ⟨b1, b2, b3, b4, b5, C.words _ hlk, C.words _ hst⟩ hpv rfl hn hL.1 hS.symm h8' hd ⟨by omega, by omega⟩
/-- what E, thrown at pc, comes to in M: the handler at hpc -/
def Catch (M : MD) (pc : Nat) (E : String) (hpc : Nat) : Prop := ∃ (hh pre : List (Nat × Nat × Nat × Nat)) (x : Nat × Nat × Nat × Nat) (suf : List (Nat × Nat × Nat × Nat)) (nm : String), M.hh = some hh ∧ hh = pre ++ x :: suf ∧ (∀ z ∈ pre, z.2.2.2 ≠ 0 ∧ ∃ nm', Cond.classLink M.y.cls z.2.2.2 nm' ∈ lw_all ∧ (E, nm') ∈ ncL) ∧ covers (⟨x.1, x.2.1, x.2.2.1, x.2.2.2⟩ : ExceptionTableEntry) pc = true ∧ x.2.2.2 ≠ 0 ∧ Cond.classLink M.y.cls x.2.2.2 nm ∈ lw_all ∧ Cond.castable E nm ∈ lw_tbl ∧ x.2.2.1 = hpc
def kqH (Ω : Wd) (M : MD) (d r : Nat) (Q : Hp → Out → Prop) (pc : Nat) (L : List (Option Value)) (S : List Value) : Hp → Out → Prop := fun h' o => match o with
  | .inl none => At Ω M d r Q (pc + 3) L S h'
  | .inl (some v) => At Ω M d r Q (pc + 3) L (v :: S) h'
  | .inr E => ∃ hpc, Catch M pc E hpc ∧ ∀ q, At Ω M d r Q hpc L [.ref q] h'
theorem kqH.v {v : Value} (k : At Ω M d r Q (pc + 3) L (v :: S) h) : kqH Ω M d r Q pc L S h (.inl (some v)) := k
theorem kqH.x {E : String} (hpc : Nat) (hc : Catch M pc E hpc) (k : ∀ q, At Ω M d r Q hpc L [.ref q] h) : kqH Ω M d r Q pc L S h (.inr E) := ⟨hpc, hc, k⟩
theorem catch_go {p : Program} {e : Env} {R : Room} {s : State} {m : MethodId} {args : Array Value} {below : List Frame} {meth : Method} {c : Code} {Qf : State → Prop} (C : Cx Ω M d p R s m args meth c) (F : FinO Ω M Q p e R s m args below meth c Qf) {E : String} {hpc : Nat} (hct : Catch M pc E hpc) {q : Nat} {ce : Cell} {H : Heap} {locs : List Loc} {cells slots : Nat} {ls : Array Slot} (hR : Rel Ω h H) (hl : ∀ z ∈ locs, Ω.base ≤ z.base) (hc : cells + r ≤ R.cells) (hs : slots + 4 * r ≤ R.slots) (hL : LR M ls L) (h1 : H[q]? = some ce) (h2 : ce.vm = .none) (h3 : s.vm.findClass E = some ce.cls) (kk : At Ω M d r Q hpc L [.ref q] h) :
    vx_W p Ω.l e R s m args below meth c H locs cells slots Qf (F0 m pc ls S) q := by
  obtain ⟨hh, pre, x, suf, nm, e1, e2, hp, hx, h0, hlk, hca, rfl⟩ := hct
  have ht := C.table hh e1
  refine vx_catch (name := nm) C.owns (tableOf pre) ⟨x.1, x.2.1, x.2.2.1, x.2.2.2⟩ (tableOf suf) (by rw [ht, e2]; simp [tableOf]) (fun z hz => ?_) hx h0 (C.words _ hlk) (va_Nw.use rfl (C.nw hca rfl)) h1 h2 h3 (kk p e R s m args below meth c Qf C F H locs cells slots ls hR hl hc hs hL)
  obtain ⟨y, hy, rfl⟩ := List.mem_map.mp hz
  obtain ⟨g1, nm', g2, g3⟩ := hp y hy
  exact Or.inr ⟨g1, nm', C.words _ g2, C.nc g3⟩
theorem R_callVH (rc : Nat) (hd : decode M.code pc = .ok (.invokevirtual i, 3)) (hv : CV M.y.cls i q.1 N n) (ha : h.1 a = some o) (hq : vwCl[o.2.1]? = some q) (hn : As.length = n) (hS : As.reverse ++ .ref a :: S = S0) (h8 : (S.map fun v => v.category).sum ≤ 8) (hr : rc ≤ r) (hok : Ok Ω N d rc (.ref a :: As) h (kqH Ω M (d + 1) (r - rc) Q pc L S)) : At Ω M (d + 1) r Q pc L S0 h := by
  intro p e R s m args below meth c Qf C F H locs cells slots ls hR hl hc hs hL
  obtain ⟨h0, hin, hv⟩ := hv
  obtain ⟨b1, b2, b3, b4, b5, b6, b7⟩ := h0.B C rc
  have hfix : CallFix p m c M.code M.maxL s args lw_all M.y.cls := ⟨C.exec, C.bytes, C.maxl, C.owns, C.words⟩
  have hpv : PreV s H q.1 a (PcO Ω (.ref a :: As) h) As := ⟨PcO.blind, hR.recv C.K ha hq, PcO.at hR C.run C.w0⟩
  have h8' : 2 * (F0 m pc ls S0).monitorRoom + (S.map fun v => v.category).sum ≤ 8 := lv_room h8
  have hrun : vx_Run p Ω.l e R s m args below meth c H locs cells slots rc (4 * rc) (F0 m pc ls S0) S (QcO Ω (kqH Ω M (d + 1) (r - rc) Q pc L S) (Value.ref a :: As).toArray) (XcO Ω (kqH Ω M (d + 1) (r - rc) Q pc L S)) Ω.own := by
    rcases hv with ⟨hlk, hse⟩ | ⟨host, hlk, hse⟩ | ⟨x, ow, hlk, hsm, hse, hmh, hds, hdc⟩
    · exact vx_runV (g := F0 m pc ls S0) hfix hok ⟨⟨rfl, rfl, b1, b2, b3, b4, b5, b6, h0.2.2.2.1, b7, C.words _ hlk⟩, C.words _ hin, C.words _ hse⟩ hpv rfl hn hL.1 hS.symm h8' hd ⟨by omega, by omega⟩
    · exact vx_runVN (g := F0 m pc ls S0) hfix hok ⟨⟨⟨rfl, rfl, b1, b2, b3, b4⟩, b5, b6, h0.2.2.2.1, b7, va_Nw.use rfl (C.nw hlk rfl)⟩, C.words _ hin, C.words _ hse⟩ hpv rfl hn hL.1 hS.symm h8' hd ⟨by omega, by omega⟩
    · refine vx_runU (g := F0 m pc ls S0) (owner := ow) (x := x) hfix hok ⟨⟨rfl, rfl, b1, b2, b3, b4⟩, b5, b6, hmh, fun sig hsig => ?_, C.words _ hlk, C.words _ hsm, ?_, C.words _ hse, C.words _ hin⟩ hpv rfl hn hL.1 hS.symm h8' hd ⟨by omega, by omega⟩
      · rw [hsig] at hds
        exact (Option.some.inj hds).symm
      · rcases hdc with hdc | hdc
        · exact va_Decl.abs (C.nw hdc rfl)
        · rw [← hdc]
          exact va_Decl.of (C.words _ hin) b5
  intro T hT X
  rcases hrun T hT X with ⟨v, st₀, t, T', Lo, g0, X', hLo, e1, e2, ⟨v', h', hv', hR', hQ'⟩, st⟩ | ⟨q', st₀, t, T', Lo, E, ce, g0, X', hLo, e1, e2, ⟨h', hR', hQ'⟩, hce, hcv, hcl, st⟩
  · cases hv'
    have hl' : ∀ z ∈ locs ++ Lo, Ω.base ≤ z.base := fun z hz => (List.mem_append.mp hz).elim (hl z) (hLo z)
    have K : ∃ t, Steps p.tables e below (T'.setTop (F0 m (pc + 3) ls (v.toList ++ S))) t ∧ Qf t := by
      cases v with
      | none => exact hQ' p e R s m args below meth c Qf C F T'.heap (locs ++ Lo) (cells + rc) (slots + 4 * rc) ls (by rw [e1]; exact hR') hl' (by omega) (by omega) hL T' rfl X'
      | some v => exact hQ' p e R s m args below meth c Qf C F T'.heap (locs ++ Lo) (cells + rc) (slots + 4 * rc) ls (by rw [e1]; exact hR') hl' (by omega) (by omega) hL T' rfl X'
    obtain ⟨t2, a1, b1⟩ := K
    exact ⟨t2, st t2 a1, b1⟩
  · have hl' : ∀ z ∈ locs ++ Lo, Ω.base ≤ z.base := fun z hz => (List.mem_append.mp hz).elim (hl z) (hLo z)
    obtain ⟨hpc, hct, kk⟩ := hQ'
    obtain ⟨t2, a1, b1⟩ := catch_go (S := S) C F hct (H := T'.heap) (locs := locs ++ Lo) (cells := cells + rc) (slots := slots + 4 * rc) (by rw [e1]; exact hR') hl' (by omega) (by omega) hL (by rw [e1]; exact hce) hcv hcl (kk q') T' rfl X'
    exact ⟨t2, st.trans a1, b1⟩
/-- an interface call -/
theorem R_callF {cnt : Nat} (rc : Nat) (hd : decode M.code pc = .ok (.invokeinterface i cnt, 5)) (hno : M.hh = none) (hv : CF M.y.cls i q.1 N n) (ha : h.1 a = some o) (hq : vwCl[o.2.1]? = some q) (hn : As.length = n) (hS : As.reverse ++ .ref a :: S = S0) (h8 : (S.map fun v => v.category).sum ≤ 8) (hr : rc ≤ r) (hok : Ok Ω N d rc (.ref a :: As) h (kq Ω M (d + 1) (r - rc) Q (pc + 5) L S)) : At Ω M (d + 1) r Q pc L S0 h := by
  intro p e R s m args below meth c Qf C F H locs cells slots ls hR hl hc hs hL
  obtain ⟨h0, hin, x, hlk, hse, hmh, hds, hfw⟩ := hv
  obtain ⟨b1, b2, b3, b4, b5, b6, b7⟩ := h0.B C rc
  have hfix : CallFix p m c M.code M.maxL s args lw_all M.y.cls := ⟨C.exec, C.bytes, C.maxl, C.owns, C.words⟩
  have hpv : PreV s H q.1 a (PcO Ω (.ref a :: As) h) As := ⟨PcO.blind, hR.recv C.K ha hq, PcO.at hR C.run C.w0⟩
  have h8' : 2 * (F0 m pc ls S0).monitorRoom + (S.map fun v => v.category).sum ≤ 8 := lv_room h8
  obtain ⟨f1, f2, f3, f4, f5⟩ := C.fw hfw hmh
  have ok1 : ∀ {w : Cond}, w.onTables = true → w.before #[] s = true → w.before args s = true := fun ht hw => va_tabs ht rfl hw
  have hrun : vx_Run5 p Ω.l e R s m args below meth c H locs cells slots rc (4 * rc) (F0 m pc ls S0) S (QcO Ω (kq Ω M (d + 1) (r - rc) Q (pc + 5) L S) (Value.ref a :: As).toArray) (XcO Ω (kq Ω M (d + 1) (r - rc) Q (pc + 5) L S)) Ω.own := vx_runF (g := F0 m pc ls S0) (x := x) (C.K.1 _ _ hq).2 hfix hok ⟨⟨rfl, rfl, b1, b2, b3, b4⟩, C.words _ hlk, ok1 rfl f1, ok1 rfl f2, C.words _ hse, C.words _ hin, ok1 rfl f3, ok1 rfl f4, ok1 rfl f5, b6, b5, hmh, fun sig hsig => by rw [hsig] at hds; exact (Option.some.inj hds).symm⟩ hpv rfl hn hL.1 hS.symm h8' hd ⟨by omega, by omega⟩
  intro T hT X
  rcases hrun T hT X with ⟨v, st₀, t, T', Lo, g0, X', hLo, e1, e2, ⟨v', h', hv', hR', hQ'⟩, st⟩ | ⟨q', st₀, t, T', Lo, E, ce, g0, X', hLo, e1, e2, ⟨h', hR', hQ'⟩, hce, hcv, hcl, st⟩
  · cases hv'
    have hl' : ∀ z ∈ locs ++ Lo, Ω.base ≤ z.base := fun z hz => (List.mem_append.mp hz).elim (hl z) (hLo z)
    have K : ∃ t, Steps p.tables e below (T'.setTop (F0 m (pc + 5) ls (v.toList ++ S))) t ∧ Qf t := by
      cases v with
      | none => exact hQ' p e R s m args below meth c Qf C F T'.heap (locs ++ Lo) (cells + rc) (slots + 4 * rc) ls (by rw [e1]; exact hR') hl' (by omega) (by omega) hL T' rfl X'
      | some v => exact hQ' p e R s m args below meth c Qf C F T'.heap (locs ++ Lo) (cells + rc) (slots + 4 * rc) ls (by rw [e1]; exact hR') hl' (by omega) (by omega) hL T' rfl X'
    obtain ⟨t2, a1, b1⟩ := K
    exact ⟨t2, st t2 a1, b1⟩
  · have hl' : ∀ z ∈ locs ++ Lo, Ω.base ≤ z.base := fun z hz => (List.mem_append.mp hz).elim (hl z) (hLo z)
    obtain ⟨t2, a1, b1⟩ := F.2 h' E q' ce T'.heap (locs ++ Lo) (cells + rc) (slots + 4 * rc) pc ls S (by rw [e1]; exact hR') hQ' hl' (by omega) (by omega) (by rw [e1]; exact hce) hcv hcl (fun x hx => by rw [C.noTable hno] at hx; cases hx) T' rfl X'
    exact ⟨t2, st.trans a1, b1⟩
end
