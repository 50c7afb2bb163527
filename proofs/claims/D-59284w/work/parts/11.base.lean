/-! facts under the rules -/
set_option maxRecDepth 100000
section
variable {Ω : Wd} {M : MD} {d : Nat} {p : Program} {R : Room} {s : State} {m : MethodId} {args : Array Value} {meth : Method} {c : Code}
theorem Cx.w0 (C : Cx Ω M d p R s m args meth c) : W0 Ω := C.1
theorem Cx.exec (C : Cx Ω M d p R s m args meth c) : p.tables.exec = Jvm.exec := C.2.1
theorem Cx.bytes (C : Cx Ω M d p R s m args meth c) : c.code = M.code := C.2.2.1
theorem Cx.maxl (C : Cx Ω M d p R s m args meth c) : c.maxLocals = M.maxL := C.2.2.2.1
theorem Cx.owns (C : Cx Ω M d p R s m args meth c) : s.vm.findClass M.y.cls = some m.cls := C.2.2.2.2.1
theorem Cx.words (C : Cx Ω M d p R s m args meth c) : ∀ w ∈ lw_all, w.before args s = true := C.2.2.2.2.2.1
theorem Cx.run (C : Cx Ω M d p R s m args meth c) : Run0 Ω s := C.2.2.2.2.2.2.1
theorem Cx.locks (C : Cx Ω M d p R s m args meth c) : meth.locks = false := C.2.2.2.2.2.2.2.1
theorem Cx.frames (C : Cx Ω M d p R s m args meth c) : 20 + d ≤ R.frames := C.2.2.2.2.2.2.2.2.1
theorem Cx.locals (C : Cx Ω M d p R s m args meth c) : 11000 + 100 * d ≤ R.locals := C.2.2.2.2.2.2.2.2.2.1
theorem Cx.name (C : Cx Ω M d p R s m args meth c) : meth.name = M.y.name := C.2.2.2.2.2.2.2.2.2.2.1
theorem Cx.table (C : Cx Ω M d p R s m args meth c) : ∀ hh, M.hh = some hh → c.exceptionTable.toList = tableOf hh := C.2.2.2.2.2.2.2.2.2.2.2.1
theorem Cx.noTable (C : Cx Ω M d p R s m args meth c) : M.hh = none → c.exceptionTable.toList = [] := C.2.2.2.2.2.2.2.2.2.2.2.2
theorem Cx.alike (C : Cx Ω M d p R s m args meth c) : Ω.s0.vm.Alike s.vm := C.run.1.alike
theorem W0.K (h : W0 Ω) : va_K Ω.D vwCl (tysOf Ω.A) Ω.s0 := h.2.1
theorem Cx.K (C : Cx Ω M d p R s m args meth c) : va_K Ω.D vwCl (tysOf Ω.A) s := va_K.moved C.alike C.w0.K
theorem Cx.nw (C : Cx Ω M d p R s m args meth c) {w : Cond} (hw : w ∈ lw_tbl) (hn : isNw w = true) : va_Nw w s := isNw.moved hn C.run.1 (C.w0.2.2.1 w hw hn)
theorem Cx.ao (C : Cx Ω M d p R s m args meth c) {X : String} (hw : X ∈ aoL) : va_AO X s := va_AO.moved C.alike (C.w0.2.2.2.1 X hw)
theorem Cx.fw (C : Cx Ω M d p R s m args meth c) {q : String × MethodName × MethodName} (hw : q ∈ fwL) (hx : q.2.1.cls ≠ "java/lang/invoke/MethodHandle" ∧ q.2.1.cls ≠ "java/lang/invoke/VarHandle") : va_Fw q.1 q.2.1 q.2.2 s := va_Fw.moved hx C.alike (C.w0.2.2.2.2.1 q hw)
theorem Cx.nc (C : Cx Ω M d p R s m args meth c) {q : String × String} (hw : q ∈ ncL) : va_Nc q.1 q.2 s := va_Nc.moved C.alike (C.w0.2.2.2.2.2.1 q hw)
theorem Run0.keeps {U : State} (h : Run0 Ω U) : ∀ a : Nat, a < Ω.s0.heap.size → ¬ Ω.own a → U.heap[a]? = Ω.s0.heap[a]? := fun a h1 _ => h.2.2 a h1
theorem Cx.sz (C : Cx Ω M d p R s m args meth c) {q : String × String × String × Value} (hw : q ∈ szL Ω) : va_Z q.1 q.2.1 q.2.2.1 q.2.2.2 Ω.own s s.heap := va_Z.moved C.alike ((C.w0.2.2.2.2.2.2.1 q hw).kept C.run.keeps)
theorem Cx.zu (C : Cx Ω M d p R s m args meth c) : vx_Zq Bundle.tN "UNASSIGNED_STACK" Bundle.steD Ω.own s s.heap := vx_Zq.moved C.alike (C.w0.2.2.2.2.2.2.2.1.kept C.run.keeps)
theorem Cx.zn (C : Cx Ω M d p R s m args meth c) : vx_Zq Bundle.tN "SUPPRESSED_SENTINEL" Bundle.listD Ω.own s s.heap := vx_Zq.moved C.alike (C.w0.2.2.2.2.2.2.2.2.1.kept C.run.keeps)
end
/-! the locals -/
def isR (v : Value) : Bool := match v with
  | .null => true
  | .ref _ => true
  | _ => false
theorem isR.rf {v : Value} (h : isR v = true) : ∃ q : Option Nat, v = va_rf q := by
  cases v with
  | null => exact ⟨none, rfl⟩
  | ref a => exact ⟨some a, rfl⟩
  | _ => cases h
theorem va_rf_inj {x y : Option Nat} (h : va_rf x = va_rf y) : x = y := by
  cases x <;> cases y <;> simp_all [va_rf]
def lvOf : Nat → List (Option Value) → List (Nat × Value)
  | _, [] => []
  | i, some v :: t => (i, v) :: lvOf (i + 1) t
  | i, none :: t => lvOf (i + 1) t
theorem lvOf_mem : ∀ (L : List (Option Value)) (i j : Nat) (v : Value), (j, v) ∈ lvOf i L ↔ i ≤ j ∧ L[j - i]? = some (some v)
  | [], i, j, v => by simp [lvOf]
  | some w :: t, i, j, v => by
    simp only [lvOf, List.mem_cons, lvOf_mem t (i + 1) j v, Prod.mk.injEq]
    constructor
    · rintro (⟨rfl, rfl⟩ | ⟨h1, h2⟩)
      · simp
      · refine ⟨by omega, ?_⟩
        rw [show j - i = (j - (i + 1)) + 1 by omega, List.getElem?_cons_succ]
        exact h2
    · rintro ⟨h1, h2⟩
      by_cases e : j = i
      · subst e
        simp at h2
        exact Or.inl ⟨rfl, h2.symm⟩
      · refine Or.inr ⟨by omega, ?_⟩
        rw [show j - i = (j - (i + 1)) + 1 by omega, List.getElem?_cons_succ] at h2
        exact h2
  | none :: t, i, j, v => by
    simp only [lvOf, lvOf_mem t (i + 1) j v]
    constructor
    · rintro ⟨h1, h2⟩
      refine ⟨by omega, ?_⟩
      rw [show j - i = (j - (i + 1)) + 1 by omega, List.getElem?_cons_succ]
      exact h2
    · rintro ⟨h1, h2⟩
      by_cases e : j = i
      · subst e
        simp at h2
      · refine ⟨by omega, ?_⟩
        rw [show j - i = (j - (i + 1)) + 1 by omega, List.getElem?_cons_succ] at h2
        exact h2
theorem lvOf_has {M : MD} {ls : Array Slot} {L : List (Option Value)} (h : LR M ls L) : lv_has ls M.maxL (lvOf 0 L) := by
  refine ⟨h.1, h.2.1, fun q hq => ?_⟩
  obtain ⟨j, v⟩ := q
  have := (lvOf_mem L 0 j v).mp hq
  exact h.2.2 j v (by simpa using this.2)
/-- the place before i holds no long or double -/
def okSt (L : List (Option Value)) : Nat → Bool
  | 0 => true
  | i + 1 => match L[i]? with
    | some (some v) => v.category == 1
    | _ => true
theorem LR.st1 {M : MD} {ls ls' : Array Slot} {L : List (Option Value)} {i : Nat} {v : Value} (_ : LR M ls L) (hk : okSt L i = true) (hc : v.category = 1) (h : lv_has ls' M.maxL ((i, v) :: (lvOf 0 L).filter (fun q => !(q.1 == i) && !(q.1 + 1 == i && q.2.category == 2)))) : LR M ls' (L.set i (some v)) := by
  refine ⟨h.1, h.2.1, fun j w hj => ?_⟩
  rw [List.getElem?_set] at hj
  by_cases e : i = j
  · rw [if_pos e] at hj
    split at hj
    · cases hj
      exact h.2.2 (j, v) (by rw [e]; exact List.mem_cons_self)
    · cases hj
  · rw [if_neg e] at hj
    refine h.2.2 (j, w) (List.mem_cons_of_mem _ (List.mem_filter.mpr ⟨(lvOf_mem L 0 j w).mpr ⟨Nat.zero_le _, by simpa using hj⟩, ?_⟩))
    have h1 : (j == i) = false := by simpa using fun q : j = i => e q.symm
    have h2 : (j + 1 == i && w.category == 2) = false := by
      by_cases q : j + 1 = i
      · subst q
        simp only [okSt, hj, beq_iff_eq] at hk
        simp [hk]
      · simp [q]
    simp [h1, h2]
theorem LR.st2 {M : MD} {ls ls' : Array Slot} {L : List (Option Value)} {i : Nat} {v : Value} (_ : LR M ls L) (hk : okSt L i = true) (hc : v.category = 2) (h : lv_has ls' M.maxL ((i, v) :: (lvOf 0 L).filter (fun q => !(q.1 == i) && (!(q.1 == i + 1) && !(q.1 + 1 == i && q.2.category == 2))))) : LR M ls' ((L.set i (some v)).set (i + 1) none) := by
  refine ⟨h.1, h.2.1, fun j w hj => ?_⟩
  rw [List.getElem?_set] at hj
  by_cases e1 : i + 1 = j
  · rw [if_pos e1] at hj
    split at hj <;> cases hj
  · rw [if_neg e1, List.getElem?_set] at hj
    by_cases e : i = j
    · rw [if_pos e] at hj
      split at hj
      · cases hj
        exact h.2.2 (j, v) (by rw [e]; exact List.mem_cons_self)
      · cases hj
    · rw [if_neg e] at hj
      refine h.2.2 (j, w) (List.mem_cons_of_mem _ (List.mem_filter.mpr ⟨(lvOf_mem L 0 j w).mpr ⟨Nat.zero_le _, by simpa using hj⟩, ?_⟩))
      have h1 : (j == i) = false := by simpa using fun q : j = i => e q.symm
      have h3 : (j == i + 1) = false := by simpa using fun q : j = i + 1 => e1 q.symm
      have h2 : (j + 1 == i && w.category == 2) = false := by
        by_cases q : j + 1 = i
        · subst q
          simp only [okSt, hj, beq_iff_eq] at hk
          simp [hk]
        · simp [q]
      simp [h1, h2, h3]
/-- forget a local -/
theorem At.drop {Ω : Wd} {M : MD} {d r : Nat} {Q : Hp → Out → Prop} {pc : Nat} {L : List (Option Value)} {S : List Value} {h : Hp} (L' : List (Option Value)) (hs : ∀ (i : Nat) (v : Value), L'[i]? = some (some v) → L[i]? = some (some v)) (k : At Ω M d r Q pc L' S h) : At Ω M d r Q pc L S h :=
  fun p e R s m args below meth c Qf C F H locs cells slots ls hR hl hc hs' hL => k p e R s m args below meth c Qf C F H locs cells slots ls hR hl hc hs' ⟨hL.1, hL.2.1, fun i v q => hL.2.2 i v (hs i v q)⟩
/-- less budget is enough -/
theorem At.less {Ω : Wd} {M : MD} {d r : Nat} {Q : Hp → Out → Prop} {pc : Nat} {L : List (Option Value)} {S : List Value} {h : Hp} (r' : Nat) (hr : r' ≤ r) (k : At Ω M d r' Q pc L S h) : At Ω M d r Q pc L S h :=
  fun p e R s m args below meth c Qf C F H locs cells slots ls hR hl hc hs hL => k p e R s m args below meth c Qf C F H locs cells slots ls hR hl (by omega) (by omega) hL
/-! reading cells -/
theorem vwCl_no (j : Nat) : vwCl[100 + j]? = none := by
  apply List.getElem?_eq_none
  show vwCl.length ≤ 100 + j
  have : vwCl.length = 23 := rfl
  omega
theorem vpV_get {vs : List Value} {i : Nat} {v : Value} (h : vs[i]? = some v) : vp_V vs i = v := by
  simp [vp_V, h]
theorem Rel.obj {Ω : Wd} {h : Hp} {H : Heap} {a : Nat} {o : Obj} {q : vw_C} (hR : Rel Ω h H) (ha : h.1 a = some o) (hc : vwCl[o.2.1]? = some q) : ∃ cell : Cell, H[a]? = some cell ∧ cell.cls = Ω.D.1 o.2.1 ∧ cell.vm.isStatics = false ∧ cell.vm ≠ .unknown ∧ q.2.2 = o.2.2.length ∧ ∀ i, i < q.2.2 → cell.slots[Ω.D.2 o.2.1 i]? = some (vp_V o.2.2 i) := by
  rcases hR.2.2.2 a o ha with ⟨_, r, -, hr, hn, cell, h1, h2, h3, h4⟩ | ⟨_, j, q', hj, -⟩ | ⟨hb, ⟨r, cell, -, hr, hn, h1, h2, h3, h4, h5⟩ | ⟨j, q', cell, hj, -⟩⟩
  · cases hr.symm.trans hc
    exact ⟨cell, h1, h2, by rw [h3]; rfl, (fun z => by rw [h3] at z; cases z), hn, h4⟩
  · rw [hj, vwCl_no] at hc
    cases hc
  · cases hr.symm.trans hc
    exact ⟨cell, by rw [hR.2.2.1 a hb]; exact h1, h2, h3, h4, hn, h5⟩
  · rw [hj, vwCl_no] at hc
    cases hc
theorem Rel.arr {Ω : Wd} {h : Hp} {H : Heap} {a j g : Nat} {vs : List Value} {q : ClassId × FieldType} {s : State} (hK : va_K Ω.D vwCl (tysOf Ω.A) s) (hal : Ω.s0.vm.Alike s.vm) (hR : Rel Ω h H) (ha : h.1 a = some (g, 100 + j, vs)) (hq : (tysOf Ω.A)[j]? = some q) : ∃ cell : Cell, H[a]? = some cell ∧ s.isArrayOf cell q.2 ∧ cell.vm ≠ .unknown ∧ cell.slots.size = vs.length ∧ ∀ (i : Nat) (v : Value), vs[i]? = some v → cell.slots[i]? = some v := by
  rcases hR.2.2.2 a _ ha with ⟨_, r, -, hr, -⟩ | ⟨_, j', q', hj, -, hq', hc⟩ | ⟨hb, ⟨r, cell, -, hr, -⟩ | ⟨j', q', cell, hj, -, hq', h1, h2, h3, h4, h5⟩⟩
  · rw [show (g, 100 + j, vs).2.1 = 100 + j from rfl, vwCl_no] at hr
    cases hr
  · have e : j = j' := by
      have : 100 + j = 100 + j' := hj
      omega
    subst e
    cases hq.symm.trans hq'
    refine ⟨_, hc, (hK.2 j q hq).1 _ _, fun z => (by cases z), arrV_size _ _ _, fun i v hv => ?_⟩
    have hi : i < vs.length := (List.getElem?_eq_some_iff.mp hv).1
    rw [arrV_read _ _ hi, vpV_get hv]
  · rw [show (g, 100 + j, vs).2.1 = 100 + j from rfl, vwCl_no] at hr
    cases hr
  · have e : j = j' := by
      have : 100 + j = 100 + j' := hj
      omega
    subst e
    cases hq.symm.trans hq'
    refine ⟨cell, by rw [hR.2.2.1 a hb]; exact h1, State.isArrayOf_alike hal h2, h3, h4, fun i v hv => ?_⟩
    have hi : i < vs.length := (List.getElem?_eq_some_iff.mp hv).1
    rw [h5 i hi, vpV_get hv]
/-! writing and making cells -/
def hput (h : Hp) (a : Nat) (o : Obj) : Hp := (fun q => if q = a then some o else h.1 q, h.2)
def hnew (h : Hp) (o : Obj) : Hp := (fun q => if q = h.2 then some o else h.1 q, h.2 + 1)
theorem Rel.lt {Ω : Wd} {h : Hp} {H : Heap} (hR : Rel Ω h H) {a : Nat} {o : Obj} (ha : h.1 a = some o) : a < H.size := by
  rcases hR.2.2.2 a o ha with ⟨_, r, -, hr, hn, cell, h1, -⟩ | ⟨_, j, q', hj, -, -, h1⟩ | ⟨hb, -⟩
  · exact (Array.getElem?_eq_some_iff.mp h1).1
  · exact (Array.getElem?_eq_some_iff.mp h1).1
  · exact Nat.lt_of_lt_of_le hb hR.2.1
theorem ckOK.kept {Ω : Wd} {H H1 : Heap} {a : Nat} {o : Obj} (h : ckOK Ω H a o) (hq : H1[a]? = H[a]?) : ckOK Ω H1 a o := by
  rcases h with ⟨hb, r, h22, hr, hn, ht⟩ | ⟨hb, j, q', hj, h7, hq', h1⟩ | hro
  · exact Or.inl ⟨hb, r, h22, hr, hn, ht.kept hq⟩
  · exact Or.inr (Or.inl ⟨hb, j, q', hj, h7, hq', by rw [hq]; exact h1⟩)
  · exact Or.inr (Or.inr hro)
theorem Rel.put {Ω : Wd} {h : Hp} {H H1 : Heap} {a : Nat} {o : Obj} (hR : Rel Ω h H) (hb : Ω.base ≤ a) (hz : H1.size = H.size) (oq : ∀ q : Nat, q ≠ a → H1[q]? = H[q]?) (hk : ckOK Ω H1 a o) : Rel Ω (hput h a o) H1 := by
  refine ⟨hR.1.trans hz.symm, by rw [hz]; exact hR.2.1, fun q hq => by rw [oq q (by omega)]; exact hR.2.2.1 q hq, fun b o' hb' => ?_⟩
  show ckOK Ω H1 b o'
  simp only [hput] at hb'
  split at hb'
  · cases hb'
    next e => rw [e]; exact hk
  · next e => exact (hR.2.2.2 b o' hb').kept (oq b e)
theorem Rel.push {Ω : Wd} {h : Hp} {H H1 : Heap} {o : Obj} (hR : Rel Ω h H) (hz : H1.size = H.size + 1) (oq : ∀ q : Nat, q < H.size → H1[q]? = H[q]?) (hk : ckOK Ω H1 H.size o) : Rel Ω (hnew h o) H1 := by
  refine ⟨by rw [hz]; show h.2 + 1 = _; rw [hR.1], by rw [hz]; have := hR.2.1; omega, fun q hq => by rw [oq q (by have := hR.2.1; omega)]; exact hR.2.2.1 q hq, fun b o' hb' => ?_⟩
  simp only [hnew] at hb'
  split at hb'
  · next e =>
    cases hb'
    rw [e, hR.1]
    exact hk
  · exact (hR.2.2.2 b o' hb').kept (oq b (hR.lt hb'))
/-- what is ours lies from the base on -/
theorem Rel.own {Ω : Wd} {h : Hp} {H : Heap} (hR : Rel Ω h H) {a : Nat} {o : Obj} (ha : h.1 a = some o) (hk : o.2.1 ≠ 22 ∧ o.2.1 < 107) : Ω.base ≤ a := by
  rcases hR.2.2.2 a o ha with ⟨hb, -⟩ | ⟨hb, -⟩ | ⟨-, ⟨r, cell, h1, -⟩ | ⟨j, q, cell, h1, h2, -⟩⟩
  · exact hb
  · exact hb
  · exact absurd h1 hk.1
  · omega
/-- the heap may hold more than is said -/
theorem Rel.sub {Ω : Wd} {h h' : Hp} {H : Heap} (hR : Rel Ω h H) (hz : h'.2 = h.2) (hs : ∀ (a : Nat) (o : Obj), h'.1 a = some o → ∃ g, h.1 a = some (g, o.2)) : Rel Ω h' H := by
  refine ⟨hz.trans hR.1, hR.2.1, hR.2.2.1, fun a o ha => ?_⟩
  obtain ⟨g, hg⟩ := hs a o ha
  have hk := hR.2.2.2 a _ hg
  rcases hk with ⟨hb, r, hr, hn, ht⟩ | ⟨hb, j, q', hj, hq', h1⟩ | ⟨hb, ⟨r, cell, h1, h2, h3⟩ | ⟨j, q', cell, h1, h2, h3⟩⟩
  · exact Or.inl ⟨hb, r, hr, hn, ht⟩
  · exact Or.inr (Or.inl ⟨hb, j, q', hj, hq', h1⟩)
  · exact Or.inr (Or.inr ⟨hb, Or.inl ⟨r, cell, h1, h2, h3⟩⟩)
  · exact Or.inr (Or.inr ⟨hb, Or.inr ⟨j, q', cell, h1, h2, h3⟩⟩)
theorem At.sub {Ω : Wd} {M : MD} {d r : Nat} {Q : Hp → Out → Prop} {pc : Nat} {L : List (Option Value)} {S : List Value} {h : Hp} (h' : Hp) (hz : h'.2 = h.2) (hs : ∀ (a : Nat) (o : Obj), h'.1 a = some o → ∃ g, h.1 a = some (g, o.2)) (k : At Ω M d r Q pc L S h') : At Ω M d r Q pc L S h :=
  fun p e R s m args below meth c Qf C F H locs cells slots ls hR hl hc hs' hL => k p e R s m args below meth c Qf C F H locs cells slots ls (hR.sub hz hs) hl hc hs' hL
