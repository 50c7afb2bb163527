/-! contracts out of bodies; calls -/
set_option maxRecDepth 100000
def entryL : List Value → Nat → List (Option Value)
  | [], n => List.replicate n none
  | v :: vs, n => if v.category = 2 then some v :: none :: entryL vs (n - 2) else some v :: entryL vs (n - 1)
theorem entryL_mem : ∀ (vs : List Value) (n k i : Nat) (v : Value), (entryL vs n)[i]? = some (some v) → (k + i, v) ∈ lv_args k vs
  | [], n, k, i, v, h => by
    simp only [entryL, List.getElem?_replicate] at h
    split at h <;> cases h
  | w :: vs, n, k, i, v, h => by
    simp only [entryL] at h
    simp only [lv_args]
    by_cases hc : w.category = 2
    · rw [if_pos hc] at h
      rw [if_pos hc]
      match i, h with
      | 0, h => simp at h; rw [h]; exact List.mem_cons_self
      | 1, h => simp at h
      | i + 2, h =>
        simp only [List.getElem?_cons_succ] at h
        have := entryL_mem vs (n - 2) (k + 2) i v h
        rw [show k + (i + 2) = k + 2 + i by omega]
        exact List.mem_cons_of_mem _ this
    · rw [if_neg hc] at h
      rw [if_neg hc]
      match i, h with
      | 0, h => simp at h; rw [h]; exact List.mem_cons_self
      | i + 1, h =>
        simp only [List.getElem?_cons_succ] at h
        have := entryL_mem vs (n - 1) (k + 1) i v h
        rw [show k + (i + 1) = k + 1 + i by omega]
        exact List.mem_cons_of_mem _ this
section
variable {Ω : Wd} {M : MD} {d r : Nat} {Q : Hp → Out → Prop} {h : Hp} {args : List Value}
/-- the end of a frame, as a contract wants it -/
theorem FinO.of {p : Program} {e : Env} {s : State} {m : MethodId} {av : Array Value} {below : List Frame} {meth : Method} {c : Code} (C : Cx Ω M d p (rmD d r) s m av meth c) (hret : meth.sig.returnType = M.ret) : FinO Ω M Q p e (rmD d r) s m av below meth c (vx_MQ below (QcO Ω Q) (XcO Ω Q) av s r (4 * r) Ω.own) := by
  refine ⟨fun h v H locs cells slots pc ls hR hQ hl hc hs hf hd => ?_, fun h E q ce H locs cells slots pc ls rest hR hQ hl hc hs hce hcv hcl ht => ?_⟩
  · refine vx_ret (W.widen (k := r) (n := 4 * r) hc hs ?_)
    cases v with
    | none =>
      exact W.vret C.exec C.bytes (hret.trans hf) (fun t ht _ => ⟨none, h, rfl, by rw [ht]; exact hR, hQ⟩) hl hd C.locks
    | some v =>
      cases v with
      | int x =>
        obtain ⟨ty, hty, hn⟩ := hf
        exact W.zret C.exec C.bytes (hret.trans hty) hn (fun t ht _ => ⟨_, h, rfl, by rw [ht]; exact hR, hQ⟩) hl hd C.locks
      | long x => exact W.lret C.exec C.bytes (hret.trans hf) (fun t ht _ => ⟨_, h, rfl, by rw [ht]; exact hR, hQ⟩) hl hd C.locks
      | float x => exact W.fret C.exec C.bytes (hret.trans hf) (fun t ht _ => ⟨_, h, rfl, by rw [ht]; exact hR, hQ⟩) hl hd C.locks
      | double x => exact W.dret C.exec C.bytes (hret.trans hf) (fun t ht _ => ⟨_, h, rfl, by rw [ht]; exact hR, hQ⟩) hl hd C.locks
      | null =>
        obtain ⟨ty, hty, hk⟩ := hf
        exact W.aret C.exec C.bytes (hret.trans hty) hk (Or.inl rfl) (fun t ht _ => ⟨_, h, rfl, by rw [ht]; exact hR, hQ⟩) hl hd C.locks
      | ref a =>
        obtain ⟨ty, hty, hk⟩ := hf
        exact W.aret C.exec C.bytes (hret.trans hty) hk (Or.inr ⟨a, rfl⟩) (fun t ht _ => ⟨_, h, rfl, by rw [ht]; exact hR, hQ⟩) hl hd C.locks
      | retAddr _ => exact hf.elim
  · exact vx_out ht C.locks hce hcv hcl (fun t ht' _ => ⟨h, by rw [ht']; exact hR, hQ⟩) hl hc hs
theorem Ok.of {L : List (Option Value)} (hy : plainName M.y.cls = true) (hh : M.hh = none) (hn : (lg_sl args).length ≤ M.maxL) (hL : entryL args M.maxL = L) (k : At Ω M d r Q 0 L [] h) : Ok Ω M d r args h Q := by
  subst hL
  refine vx_ofW (cc := M.code) (maxL := M.maxL) (ret := M.ret) (ws' := lw_all) hy (by unfold wsOf; rw [hh]) ?_
  intro p e s m av below meth c s₁ B hml ht hP
  obtain ⟨rfl, hR, hrun, hw0⟩ := hP
  have C : Cx Ω M d p (rmD d r) s m args.toArray meth c := ⟨hw0, B.exec, B.bytes, hml, findClass_of_methodNamed B.named, fun w hw => atoms_spec (ws := wsOf M) B.pre w (List.mem_cons_of_mem _ hw), hrun, B.notSynchronized, Nat.le_refl _, Nat.le_refl _, (name_of_methodNamed B.named B.method).1, (fun hh' z => by rw [hh] at z; cases z), fun _ => List.eq_nil_iff_forall_not_mem.mpr fun x hx => ht x hx⟩
  have hl := lv_entry args (n := M.maxL) hn
  rw [lg_entry_eq]
  exact k p e (rmD d r) s m args.toArray below meth c _ C (FinO.of C B.returns) s.heap [] 0 0 _ hR (fun _ z => by cases z) (Nat.le_of_eq (Nat.zero_add _)) (Nat.le_of_eq (Nat.zero_add _)) ⟨hl.1, hl.2.1, fun i v hi => by
    have := entryL_mem args M.maxL 0 i v hi
    rw [Nat.zero_add] at this
    exact hl.2.2 _ this⟩
theorem Ok.ofH {L : List (Option Value)} {hh : List (Nat × Nat × Nat × Nat)} (hy : plainName M.y.cls = true) (hh0 : M.hh = some hh) (hn : (lg_sl args).length ≤ M.maxL) (hL : entryL args M.maxL = L) (k : At Ω M d r Q 0 L [] h) : Ok Ω M d r args h Q := by
  subst hL
  refine vx_ofWH (cc := M.code) (maxL := M.maxL) (ret := M.ret) (hh := hh) (ws' := lw_all) hy (by unfold wsOf; rw [hh0]) ?_
  intro p e s m av below meth c s₁ B hml hP
  obtain ⟨rfl, hR, hrun, hw0⟩ := hP
  have hwc : (Cond.codeWith M.y M.code M.maxL M.ret hh).before args.toArray s = true := atoms_spec (ws := wsOf M) B.pre _ (by unfold wsOf; rw [hh0]; exact List.mem_cons_self)
  have C : Cx Ω M d p (rmD d r) s m args.toArray meth c := ⟨hw0, B.exec, B.bytes, hml, findClass_of_methodNamed B.named, fun w hw => atoms_spec (ws := wsOf M) B.pre w (List.mem_cons_of_mem _ hw), hrun, B.notSynchronized, Nat.le_refl _, Nat.le_refl _, (name_of_methodNamed B.named B.method).1, (fun hh' z => by
    rw [hh0] at z
    cases z
    exact vx_table (x := M.y) B hwc), (fun z => by rw [hh0] at z; cases z)⟩
  have hl := lv_entry args (n := M.maxL) hn
  rw [lg_entry_eq]
  exact k p e (rmD d r) s m args.toArray below meth c _ C (FinO.of C B.returns) s.heap [] 0 0 _ hR (fun _ z => by cases z) (Nat.le_of_eq (Nat.zero_add _)) (Nat.le_of_eq (Nat.zero_add _)) ⟨hl.1, hl.2.1, fun i v hi => by
    have := entryL_mem args M.maxL 0 i v hi
    rw [Nat.zero_add] at this
    exact hl.2.2 _ this⟩
theorem PcO.blind : FrameBlind (PcO Ω args h) := fun _ _ _ _ q => q
theorem PcO.at {H : Heap} {s : State} (hR : Rel Ω h H) (hrun : Run0 Ω s) (hw : W0 Ω) : ∀ U : State, U.heap = H → s.WarmedH U.vm → PcO Ω args h args.toArray U := by
  intro U hU hW
  subst hU
  exact ⟨rfl, hR, ⟨State.WarmedH.trans hrun.1 hW, hR.2.1, hR.2.2.1⟩, hw⟩
/-- behind a call -/
def kq (Ω : Wd) (M : MD) (d r : Nat) (Q : Hp → Out → Prop) (pc : Nat) (L : List (Option Value)) (S : List Value) : Hp → Out → Prop := fun h' o => match o with
  | .inl none => At Ω M d r Q pc L S h'
  | .inl (some v) => At Ω M d r Q pc L (v :: S) h'
  | .inr E => Q h' (.inr E)
theorem kq.v {pc : Nat} {L : List (Option Value)} {S : List Value} {v : Value} (k : At Ω M d r Q pc L (v :: S) h) : kq Ω M d r Q pc L S h (.inl (some v)) := k
theorem kq.n {pc : Nat} {L : List (Option Value)} {S : List Value} (k : At Ω M d r Q pc L S h) : kq Ω M d r Q pc L S h (.inl none) := k
theorem kq.x {pc : Nat} {L : List (Option Value)} {S : List Value} {E : String} (k : Q h (.inr E)) : kq Ω M d r Q pc L S h (.inr E) := k
section Run
variable {p : Program} {e : Env} {R : Room} {s : State} {m : MethodId} {av : Array Value} {below : List Frame} {meth : Method} {c : Code} {H : Heap} {locs : List Loc} {cells slots pc rc : Nat} {Qf : State → Prop} {L : List (Option Value)} {S S0 : List Value} {ls : Array Slot} {a : Array Value}
/-- the frame goes on behind a call of a method (no handlers here) -/
theorem run_go {dd : Nat} (C : Cx Ω M dd p R s m av meth c) (F : FinO Ω M Q p e R s m av below meth c Qf) (hno : M.hh = none) (hl : ∀ z ∈ locs, Ω.base ≤ z.base) (hrc : rc ≤ r) (hc : cells + r ≤ R.cells) (hs : slots + 4 * r ≤ R.slots) (hL : LR M ls L)
    (hr : vx_Run p Ω.l e R s m av below meth c H locs cells slots rc (4 * rc) (F0 m pc ls S0) S (QcO Ω (kq Ω M dd (r - rc) Q (pc + 3) L S) a) (XcO Ω (kq Ω M dd (r - rc) Q (pc + 3) L S)) Ω.own) : W p Ω.l e R s m av below meth c H locs cells slots Qf (F0 m pc ls S0) := by
  intro T hT X
  rcases hr T hT X with ⟨v, st₀, t, T', Lo, h0, X', hLo, e1, e2, ⟨v', h', hv', hR', hQ'⟩, st⟩ | ⟨q, st₀, t, T', Lo, E, ce, h0, X', hLo, e1, e2, ⟨h', hR', hQ'⟩, hce, hcv, hcl, st⟩
  · cases hv'
    have hl' : ∀ z ∈ locs ++ Lo, Ω.base ≤ z.base := fun z hz => (List.mem_append.mp hz).elim (hl z) (hLo z)
    have K : ∃ t, Steps p.tables e below (T'.setTop (F0 m (pc + 3) ls (v.toList ++ S))) t ∧ Qf t := by
      cases v with
      | none => exact hQ' p e R s m av below meth c Qf C F T'.heap (locs ++ Lo) (cells + rc) (slots + 4 * rc) ls (by rw [e1]; exact hR') hl' (by omega) (by omega) hL T' rfl X'
      | some v => exact hQ' p e R s m av below meth c Qf C F T'.heap (locs ++ Lo) (cells + rc) (slots + 4 * rc) ls (by rw [e1]; exact hR') hl' (by omega) (by omega) hL T' rfl X'
    obtain ⟨t2, a1, b1⟩ := K
    exact ⟨t2, st t2 a1, b1⟩
  · have hl' : ∀ z ∈ locs ++ Lo, Ω.base ≤ z.base := fun z hz => (List.mem_append.mp hz).elim (hl z) (hLo z)
    obtain ⟨t2, a1, b1⟩ := F.2 h' E q ce T'.heap (locs ++ Lo) (cells + rc) (slots + 4 * rc) pc ls S (by rw [e1]; exact hR') hQ' hl' (by omega) (by omega) (by rw [e1]; exact hce) hcv hcl (fun x hx => by rw [C.noTable hno] at hx; cases hx) T' rfl X'
    exact ⟨t2, st.trans a1, b1⟩
end Run
/-- a call through an object: entry i of own, the receiver of class X, runs N with n arguments -/
def CN0 (N : MD) (n : Nat) : Prop := N.hh = none ∧ Cond.code N.y N.code N.maxL N.ret ∈ lw_all ∧ Cond.initialized N.y.cls ∈ lw_all ∧ (N.y.cls ≠ "java/lang/invoke/MethodHandle" ∧ N.y.cls ≠ "java/lang/invoke/VarHandle") ∧ N.maxL ≤ 80 ∧ (parseMethodDescriptor N.y.desc).map (fun d => d.parameters.length) = some n
def CV (own : String) (i : Nat) (X : String) (N : MD) (n : Nat) : Prop := CN0 N n ∧ Cond.instanceMethod N.y ∈ lw_all ∧
  ((Cond.methodLink own i N.y ∈ lw_all ∧ Cond.selects X N.y N.y ∈ lw_all) ∨ (∃ host, Cond.methodLinkNest own i N.y host ∈ lw_tbl ∧ Cond.selects X N.y N.y ∈ lw_all) ∨
   (∃ (x : MethodName) (o : String), Cond.methodLink own i x ∈ lw_all ∧ Cond.sameMethod x.cls o x.name x.desc ∈ lw_all ∧ Cond.selects X x N.y ∈ lw_all ∧ (o ≠ "java/lang/invoke/MethodHandle" ∧ o ≠ "java/lang/invoke/VarHandle") ∧ (parseMethodDescriptor x.desc).map (fun d => d.parameters.length) = some n ∧ (Cond.declares ⟨o, x.name, x.desc⟩ ∈ lw_tbl ∨ N.y = ⟨o, x.name, x.desc⟩)))
/-- a static call -/
def CS (own : String) (i : Nat) (N : MD) (n : Nat) : Prop := CN0 N n ∧ Cond.static N.y ∈ lw_all ∧ (Cond.methodLink own i N.y ∈ lw_all ∨ ∃ host, Cond.methodLinkNest own i N.y host ∈ lw_tbl)
/-- a constructor -/
def CI (own : String) (i : Nat) (N : MD) (n : Nat) : Prop := CN0 N n ∧ N.ret = none ∧ N.y.name = "<init>" ∧ Cond.instanceMethod N.y ∈ lw_all ∧ (Cond.methodLink own i N.y ∈ lw_all ∨ ∃ host, Cond.methodLinkNest own i N.y host ∈ lw_tbl)
/-- a superclass's method by invokespecial -/
def CU (own : String) (i : Nat) (N : MD) (n : Nat) : Prop := CN0 N n ∧ N.y.name ≠ "<init>" ∧ Cond.instanceMethod N.y ∈ lw_all ∧ Cond.methodLink own i N.y ∈ lw_all ∧ Cond.sameMethod N.y.cls N.y.cls N.y.name N.y.desc ∈ lw_all ∧ Cond.superclass own N.y.cls ∈ lw_all
/-- an interface call -/
def CF (own : String) (i : Nat) (X : String) (N : MD) (n : Nat) : Prop := CN0 N n ∧ Cond.instanceMethod N.y ∈ lw_all ∧ ∃ x : MethodName, Cond.methodLink own i x ∈ lw_all ∧ Cond.selects X x N.y ∈ lw_all ∧ (x.cls ≠ "java/lang/invoke/MethodHandle" ∧ x.cls ≠ "java/lang/invoke/VarHandle") ∧ (parseMethodDescriptor x.desc).map (fun d => d.parameters.length) = some n ∧ (X, x, N.y) ∈ fwL
theorem lw_keep {args : Array Value} {s : State} (hts : ∀ w ∈ lw_all, w.before args s = true) {w : Cond} (hw : w ∈ lw_all) : ∀ (a' : Array Value) (U : State), s.WarmedH U.vm → w.before a' U = true :=
  fun a' U hW => word_at hW (good_of_word (List.mem_filter.mp hw).2) (hts w hw)
section Calls
variable {N : MD} {i n rc : Nat} {pc : Nat} {L : List (Option Value)} {S S0 As : List Value} {a : Nat} {o : Obj} {q : vw_C}
theorem CN0.B {p : Program} {R : Room} {s : State} {m : MethodId} {av : Array Value} {meth : Method} {c : Code} (C : Cx Ω M (d + 1) p R s m av meth c) (h : CN0 N n) (rc : Nat) : (rmD d rc).frames + 1 ≤ R.frames ∧ 8 + (N.maxL + 11) + (rmD d rc).locals ≤ R.locals ∧ (∀ w ∈ wsOf N, ∀ (a' : Array Value) (U : State), s.WarmedH U.vm → w.before a' U = true) ∧ Cond.code N.y N.code N.maxL N.ret ∈ wsOf N ∧ (Cond.code N.y N.code N.maxL N.ret).before av s = true ∧ (Cond.initialized N.y.cls).before av s = true ∧ (∀ sig, parseMethodDescriptor N.y.desc = some sig → n = sig.parameters.length) := by
  obtain ⟨h1, h2, h3, h4, h5, h6⟩ := h
  have hfr := C.frames
  have hlo := C.locals
  refine ⟨by show 20 + d + 1 ≤ _; omega, by show 8 + (N.maxL + 11) + (11000 + 100 * d) ≤ _; omega, fun w hw => ?_, by unfold wsOf; rw [h1]; exact List.mem_cons_self, C.words _ h2, C.words _ h3, fun sig hsig => ?_⟩
  · unfold wsOf at hw
    rw [h1] at hw
    rcases List.mem_cons.mp hw with e | e
    · rw [e]; exact lw_keep C.words h2
    · exact lw_keep C.words e
  · rw [hsig] at h6
    exact (Option.some.inj h6).symm
theorem R_callV (rc : Nat) (hd : decode M.code pc = .ok (.invokevirtual i, 3)) (hno : M.hh = none) (hv : CV M.y.cls i q.1 N n) (ha : h.1 a = some o) (hq : vwCl[o.2.1]? = some q) (hn : As.length = n) (hS : As.reverse ++ .ref a :: S = S0) (h8 : (S.map fun v => v.category).sum ≤ 8) (hr : rc ≤ r) (hok : Ok Ω N d rc (.ref a :: As) h (kq Ω M (d + 1) (r - rc) Q (pc + 3) L S)) : At Ω M (d + 1) r Q pc L S0 h := by
  intro p e R s m args below meth c Qf C F H locs cells slots ls hR hl hc hs hL
  obtain ⟨h0, hin, hv⟩ := hv
  obtain ⟨b1, b2, b3, b4, b5, b6, b7⟩ := h0.B C rc
  have hrecv := hR.recv C.K ha hq
  have hfix : CallFix p m c M.code M.maxL s args lw_all M.y.cls := ⟨C.exec, C.bytes, C.maxl, C.owns, C.words⟩
  have hpv : PreV s H q.1 a (PcO Ω (.ref a :: As) h) As := ⟨PcO.blind, hrecv, PcO.at hR C.run C.w0⟩
  have h8' : 2 * (F0 m pc ls S0).monitorRoom + (S.map fun v => v.category).sum ≤ 8 := lv_room h8
  refine run_go (S := S) (a := (Value.ref a :: As).toArray) C F hno hl hr hc hs hL ?_
  rcases hv with ⟨hlk, hse⟩ | ⟨host, hlk, hse⟩ | ⟨x, ow, hlk, hsm, hse, hmh, hds, hdc⟩
  · exact vx_runV (g := F0 m pc ls S0) hfix hok ⟨⟨rfl, rfl, b1, b2, b3, b4, b5, b6, h0.2.2.2.1, b7, C.words _ hlk⟩, C.words _ hin, C.words _ hse⟩ hpv rfl hn hL.1 hS.symm h8' hd ⟨by omega, by omega⟩
  · exact vx_runVN (g := F0 m pc ls S0) hfix hok ⟨⟨⟨rfl, rfl, b1, b2, b3, b4⟩, b5, b6, h0.2.2.2.1, b7, va_Nw.use rfl (C.nw hlk rfl)⟩, C.words _ hin, C.words _ hse⟩ hpv rfl hn hL.1 hS.symm h8' hd ⟨by omega, by omega⟩
  · refine vx_runU (g := F0 m pc ls S0) (owner := ow) (x := x) hfix hok ⟨⟨rfl, rfl, b1, b2, b3, b4⟩, b5, b6, hmh, fun sig hsig => ?_, C.words _ hlk, C.words _ hsm, ?_, C.words _ hse, C.words _ hin⟩ hpv rfl hn hL.1 hS.symm h8' hd ⟨by omega, by omega⟩
    · rw [hsig] at hds
      exact (Option.some.inj hds).symm
    · rcases hdc with hdc | hdc
      · exact va_Decl.abs (C.nw hdc rfl)
      · rw [← hdc]
        exact va_Decl.of (C.words _ hin) b5
theorem R_callS (rc : Nat) (hd : decode M.code pc = .ok (.invokestatic i, 3)) (hno : M.hh = none) (hv : CS M.y.cls i N n) (hn : As.length = n) (hS : As.reverse ++ S = S0) (h8 : (S.map fun v => v.category).sum ≤ 8) (hr : rc ≤ r) (hok : Ok Ω N d rc As h (kq Ω M (d + 1) (r - rc) Q (pc + 3) L S)) : At Ω M (d + 1) r Q pc L S0 h := by
  intro p e R s m args below meth c Qf C F H locs cells slots ls hR hl hc hs hL
  obtain ⟨h0, hst, hv⟩ := hv
  obtain ⟨b1, b2, b3, b4, b5, b6, b7⟩ := h0.B C rc
  have hfix : CallFix p m c M.code M.maxL s args lw_all M.y.cls := ⟨C.exec, C.bytes, C.maxl, C.owns, C.words⟩
  have hpv : PreS s H (PcO Ω As h) As := ⟨PcO.blind, PcO.at hR C.run C.w0⟩
  have h8' : 2 * (F0 m pc ls S0).monitorRoom + (S.map fun v => v.category).sum ≤ 8 := lv_room h8
  refine run_go (S := S) (a := As.toArray) C F hno hl hr hc hs hL ?_
  rcases hv with hlk | ⟨host, hlk⟩
  · exact vx_runS (g := F0 m pc ls S0) hfix hok ⟨⟨rfl, rfl, b1, b2, b3, b4, b5, b6, h0.2.2.2.1, b7, C.words _ hlk⟩, C.words _ hst⟩ hpv rfl hn hL.1 hS.symm h8' hd ⟨by omega, by omega⟩
  · exact vx_runSN (g := F0 m pc ls S0) hfix hok ⟨⟨⟨rfl, rfl, b1, b2, b3, b4⟩, b5, b6, h0.2.2.2.1, b7, va_Nw.use rfl (C.nw hlk rfl)⟩, C.words _ hst, trivial⟩ hpv rfl hn hL.1 hS.symm h8' hd ⟨by omega, by omega⟩
theorem R_callI (rc : Nat) (hd : decode M.code pc = .ok (.invokespecial i, 3)) (hno : M.hh = none) (hv : CI M.y.cls i N n) (hn : As.length = n) (hS : As.reverse ++ .ref a :: S = S0) (h8 : (S.map fun v => v.category).sum ≤ 8) (hr : rc ≤ r) (hok : Ok Ω N d rc (.ref a :: As) h (kq Ω M (d + 1) (r - rc) Q (pc + 3) L S)) : At Ω M (d + 1) r Q pc L S0 h := by
  intro p e R s m args below meth c Qf C F H locs cells slots ls hR hl hc hs hL
  obtain ⟨h0, hrt, hnm, hin, hv⟩ := hv
  obtain ⟨b1, b2, b3, b4, b5, b6, b7⟩ := h0.B C rc
  rw [hrt] at b4 b5
  have hfix : CallFix p m c M.code M.maxL s args lw_all M.y.cls := ⟨C.exec, C.bytes, C.maxl, C.owns, C.words⟩
  have hpv : PreS s H (PcO Ω (.ref a :: As) h) (.ref a :: As) := ⟨PcO.blind, PcO.at hR C.run C.w0⟩
  have h8' : 2 * (F0 m pc ls S0).monitorRoom + (S.map fun v => v.category).sum ≤ 8 := lv_room h8
  refine run_go (S := S) (a := (Value.ref a :: As).toArray) C F hno hl hr hc hs hL ?_
  rcases hv with hlk | ⟨host, hlk⟩
  · exact vx_runI (g := F0 m pc ls S0) (bytes := N.code) (maxL := N.maxL) hfix hok ⟨⟨rfl, rfl, b1, b2, b3, b4, b5, b6, h0.2.2.2.1, b7, C.words _ hlk⟩, hnm, C.words _ hin⟩ hpv rfl hn hL.1 hS.symm h8' hd ⟨by omega, by omega⟩
  · exact vx_runIN (g := F0 m pc ls S0) (bytes := N.code) (maxL := N.maxL) hfix hok ⟨⟨⟨rfl, rfl, b1, b2, b3, b4⟩, b5, b6, h0.2.2.2.1, b7, va_Nw.use rfl (C.nw hlk rfl)⟩, hnm, C.words _ hin⟩ hpv rfl hn hL.1 hS.symm h8' hd ⟨by omega, by omega⟩
theorem R_callU (rc : Nat) (hd : decode M.code pc = .ok (.invokespecial i, 3)) (hno : M.hh = none) (hv : CU M.y.cls i N n) (ha : h.1 a = some o) (hq : vwCl[o.2.1]? = some q) (hn : As.length = n) (hS : As.reverse ++ .ref a :: S = S0) (h8 : (S.map fun v => v.category).sum ≤ 8) (hr : rc ≤ r) (hok : Ok Ω N d rc (.ref a :: As) h (kq Ω M (d + 1) (r - rc) Q (pc + 3) L S)) : At Ω M (d + 1) r Q pc L S0 h := by
  intro p e R s m args below meth c Qf C F H locs cells slots ls hR hl hc hs hL
  obtain ⟨h0, hnm, hin, hlk, hsm, hsup⟩ := hv
  obtain ⟨b1, b2, b3, b4, b5, b6, b7⟩ := h0.B C rc
  have hfix : CallFix p m c M.code M.maxL s args lw_all M.y.cls := ⟨C.exec, C.bytes, C.maxl, C.owns, C.words⟩
  have hpv : PreV s H q.1 a (PcO Ω (.ref a :: As) h) As := ⟨PcO.blind, hR.recv C.K ha hq, PcO.at hR C.run C.w0⟩
  have h8' : 2 * (F0 m pc ls S0).monitorRoom + (S.map fun v => v.category).sum ≤ 8 := lv_room h8
  refine run_go (S := S) (a := (Value.ref a :: As).toArray) C F hno hl hr hc hs hL ?_
  exact vx_runSU (g := F0 m pc ls S0) (C.K.1 _ _ hq).2 hfix hok ⟨⟨rfl, rfl, b1, b2, b3, b4⟩, C.words _ hlk, C.words _ hsm, C.words _ hsup, C.words _ hin, b6, b5, hnm, b7⟩ hpv rfl hn hL.1 hS.symm h8' hd ⟨by omega, by omega⟩
end Calls
end
