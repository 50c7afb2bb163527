/-! rules: fields, arrays, new cells, casts, statics, returns -/
set_option maxRecDepth 100000
/-- entry i of own's pool names field f of the class with number k -/
def GF (own : String) (i k f : Nat) : Prop := ∃ (r : vw_C) (ref : String), vwCl[k]? = some r ∧ f < r.2.2 ∧ (∀ w ∈ u_ws r.1 r.2.1 r.2.2, w ∈ lw_all) ∧ (ref = (r.2.1 f).1 ∨ Cond.sameField ref (r.2.1 f).1 (r.2.1 f).2.1 (r.2.1 f).2.2.1 ∈ lw_all) ∧
  (Cond.fieldLink own i ref (r.2.1 f).2.1 (r.2.1 f).2.2.1 ∈ lw_all ∨ ∃ host, Cond.fieldLinkNest own i ref (r.2.1 f).2.1 (r.2.1 f).2.2.1 host ∈ lw_tbl)
/-- .. and its type, for a write -/
def PF (own : String) (i k f : Nat) (ty : FieldType) (fin : Bool) : Prop := ∃ (r : vw_C) (ref : String) (tyf : Nat → FieldType), vwCl[k]? = some r ∧ k ≠ 22 ∧ f < r.2.2 ∧ (∀ w ∈ u_ws r.1 r.2.1 r.2.2, w ∈ lw_all) ∧ (ref = (r.2.1 f).1 ∨ Cond.sameField ref (r.2.1 f).1 (r.2.1 f).2.1 (r.2.1 f).2.2.1 ∈ lw_all) ∧
  (Cond.fieldLink own i ref (r.2.1 f).2.1 (r.2.1 f).2.2.1 ∈ lw_all ∨ (fin = false ∧ ∃ host, Cond.fieldLinkNest own i ref (r.2.1 f).2.1 (r.2.1 f).2.2.1 host ∈ lw_tbl)) ∧ (∀ k, k < r.2.2 → parseFieldDescriptor (r.2.1 k).2.2.1 = some (tyf k)) ∧ (∀ a, a < r.2.2 → ∀ b, b < r.2.2 → a ≠ b → (r.2.1 a).2.1 ≠ (r.2.1 b).2.1) ∧
  parseFieldDescriptor (r.2.1 f).2.2.1 = some ty ∧ (r.2.1 f).2.2.2 = fin ∧ (fin = true → (r.2.1 f).1 = own)
section
variable {Ω : Wd} {M : MD} {d r : Nat} {Q : Hp → Out → Prop} {pc : Nat} {L : List (Option Value)} {S : List Value} {h : Hp}
theorem Cx.same {p : Program} {R : Room} {s : State} {m : MethodId} {args : Array Value} {meth : Method} {c : Code} (C : Cx Ω M d p R s m args meth c) {ref o n ds : String} (hs : ref = o ∨ Cond.sameField ref o n ds ∈ lw_all) : ∀ x, s.fieldFound? o n ds = some x → s.fieldFound? ref n ds = some x := by
  intro x hx
  rcases hs with e | e
  · rw [e]; exact hx
  · exact u_same (C.words _ e) x hx
theorem R_getfield {i k f a : Nat} {o : Obj} {v : Value} (hd : decode M.code pc = .ok (.getfield i, 3)) (hg : GF M.y.cls i k f) (ha : h.1 a = some o) (hk : o.2.1 = k) (hv : o.2.2[f]? = some v) (kk : At Ω M d r Q (pc + 3) L (v :: S) h) : At Ω M d r Q pc L (.ref a :: S) h := by
  intro p e R s m args below meth c Qf C F H locs cells slots ls hR hl hc hs hL
  have K := kk p e R s m args below meth c Qf C F H locs cells slots ls hR hl hc hs hL
  subst hk
  obtain ⟨q, ref, hq, hf, hin, hsm, hlk⟩ := hg
  obtain ⟨cell, q1, q2, q3, q4, q5, q6⟩ := hR.obj ha hq
  obtain ⟨hS, hfc, kC, hkC, hkind⟩ := C.K.1 _ _ hq
  obtain ⟨cf, kf, fi, fd, hi, hsl⟩ := hS f hf
  have hin' : ∀ w ∈ u_ws q.1 q.2.1 q.2.2, w ∈ lw_all := hin
  have hst := (u_facts hfc hkC (u_lays (C := q.1) (T := q.2.1) (N := q.2.2) C.words hin' hf) hi).1
  have hval : cell.slots[fd.slot]? = some v := by rw [hsl, q6 f hf, vpV_get hv]
  rcases hlk with hlk | ⟨host, hlk⟩
  · exact W.getf C.exec C.bytes C.owns (C.words _ hlk) (C.same hsm _ hi) hst q1 q4 hval rfl rfl hd K
  · exact va_Wgetf C.exec C.bytes C.owns (va_Nw.use rfl (C.nw hlk rfl)) (C.same hsm _ hi) hst q1 q4 hval rfl rfl hd K
theorem R_putfield {i k f a : Nat} {o : Obj} {v : Value} {ty : FieldType} (hd : decode M.code pc = .ok (.putfield i, 3)) (hp : PF M.y.cls i k f ty false) (ha : h.1 a = some o) (hk : o.2.1 = k) (hn : narrow ty v = v) (hfit : fits ty v = true) (kk : At Ω M d r Q (pc + 3) L S (hput h a (o.1, o.2.1, o.2.2.set f v))) : At Ω M d r Q pc L (v :: .ref a :: S) h := by
  intro p e R s m args below meth c Qf C F H locs cells slots ls hR hl hc hs hL
  subst hk
  obtain ⟨q, ref, tyf, hq, h22, hf, hin, hsm, hlk, hty, hnm, hd1, hfin, -⟩ := hp
  have hk100 : o.2.1 < 107 := by
    have := (List.getElem?_eq_some_iff.mp hq).1
    have h2 : vwCl.length = 23 := rfl
    omega
  have hb := hR.own ha ⟨h22, hk100⟩
  have hap := va_apart (own := M.y.cls) (C := q.1) (T := q.2.1) (N := q.2.2) C.words hin tyf hty hnm C.K (show vwCl[o.2.1]? = some (q.1, q.2.1, q.2.2) from hq)
  have hcell : ∃ cell : Cell, H[a]? = some cell ∧ cell.cls = Ω.D.1 o.2.1 ∧ cell.vm = .none ∧ q.2.2 = o.2.2.length ∧ ∀ i, i < q.2.2 → cell.slots[Ω.D.2 o.2.1 i]? = some (vp_V o.2.2 i) := by
    rcases hR.2.2.2 a o ha with ⟨_, r', -, hr', hn', cell, h1, h2, h3, h4⟩ | ⟨_, j, q', hj, -⟩ | ⟨hb', -⟩
    · cases hr'.symm.trans hq
      exact ⟨cell, h1, h2, h3, hn', h4⟩
    · rw [hj, vwCl_no] at hq
      cases hq
    · omega
  obtain ⟨cell, q1, q2, q3, q5, q6⟩ := hcell
  obtain ⟨hS, hfc, kC, hkC, hkind⟩ := C.K.1 _ _ hq
  obtain ⟨cf, kf, fi, fd, hi, hsl⟩ := hS f hf
  have hlay := C.words _ (hin _ (u_in_lay hf))
  unfold u_lay at hlay
  rw [if_neg (by rw [hfin]; decide)] at hlay
  have hst := (u_facts hfc hkC (u_lays (C := q.1) (T := q.2.1) (N := q.2.2) C.words hin hf) hi).1
  have h6 := u_store hfc hkC hkind hlay hi hd1 hn hfit
  have hlt : fd.slot < cell.slots.size := by rw [hsl]; exact k2_hasslot (q6 f hf)
  have fin : ∀ H' : Heap, H'[a]? = some (cell.setSlot fd.slot v) → H'.size = H.size → (∀ q : Nat, q ≠ a → H'[q]? = H[q]?) → W p Ω.l e R s m args below meth c H' (locs ++ [⟨a, fd.slot⟩]) cells slots Qf (F0 m (pc + 3) ls S) := by
    intro H' e1 e2 e3
    rw [hsl] at e1
    refine kk p e R s m args below meth c Qf C F H' _ cells slots ls (hR.put hb e2 e3 (Or.inl ⟨hb, q, h22, hq, by simpa using q5, t_OB.to (V := updV (vp_V o.2.2) f v) ⟨_, e1, q2, q3, t_set q6 hap hf v⟩ (fun j _ => vp_updV_set (by omega) v j)⟩)) ?_ hc hs hL
    intro z hz
    rcases List.mem_append.mp hz with h1 | h1
    · exact hl z h1
    · rw [List.mem_singleton.mp h1]; exact hb
  rcases hlk with hlk | ⟨-, host, hlk⟩
  · exact W.putK C.exec C.bytes (f := fd) ⟨C.owns, C.words _ hlk, ⟨_, _, _, C.same hsm _ hi⟩, hst⟩ (by rw [q2]; exact h6) q1 q3 hlt rfl rfl hd fin
  · exact va_WputK C.exec C.bytes (f := fd) C.owns (va_Nw.use rfl (C.nw hlk rfl)) (C.same hsm _ hi) hst (by rw [q2]; exact h6) q1 q3 hlt rfl rfl hd fin
theorem R_putfinal {i k f a : Nat} {o : Obj} {v : Value} {ty : FieldType} (hd : decode M.code pc = .ok (.putfield i, 3)) (hp : PF M.y.cls i k f ty true) (hin0 : M.y.name = "<init>") (ha : h.1 a = some o) (hk : o.2.1 = k) (hn : narrow ty v = v) (hfit : fits ty v = true) (kk : At Ω M d r Q (pc + 3) L S (hput h a (o.1, o.2.1, o.2.2.set f v))) : At Ω M d r Q pc L (v :: .ref a :: S) h := by
  intro p e R s m args below meth c Qf C F H locs cells slots ls hR hl hc hs hL
  subst hk
  obtain ⟨q, ref, tyf, hq, h22, hf, hin, hsm, hlk, hty, hnm, hd1, hfin, hdecl⟩ := hp
  have hk100 : o.2.1 < 107 := by
    have := (List.getElem?_eq_some_iff.mp hq).1
    have h2 : vwCl.length = 23 := rfl
    omega
  have hb := hR.own ha ⟨h22, hk100⟩
  have hap := va_apart (own := M.y.cls) (C := q.1) (T := q.2.1) (N := q.2.2) C.words hin tyf hty hnm C.K (show vwCl[o.2.1]? = some (q.1, q.2.1, q.2.2) from hq)
  have hcell : ∃ cell : Cell, H[a]? = some cell ∧ cell.cls = Ω.D.1 o.2.1 ∧ cell.vm = .none ∧ q.2.2 = o.2.2.length ∧ ∀ i, i < q.2.2 → cell.slots[Ω.D.2 o.2.1 i]? = some (vp_V o.2.2 i) := by
    rcases hR.2.2.2 a o ha with ⟨_, r', -, hr', hn', cell, h1, h2, h3, h4⟩ | ⟨_, j, q', hj, -⟩ | ⟨hb', -⟩
    · cases hr'.symm.trans hq
      exact ⟨cell, h1, h2, h3, hn', h4⟩
    · rw [hj, vwCl_no] at hq
      cases hq
    · omega
  obtain ⟨cell, q1, q2, q3, q5, q6⟩ := hcell
  obtain ⟨hS, hfc, kC, hkC, hkind⟩ := C.K.1 _ _ hq
  obtain ⟨cf, kf, fi, fd, hi, hsl⟩ := hS f hf
  have hlay := C.words _ (hin _ (u_in_lay hf))
  unfold u_lay at hlay
  rw [if_pos hfin] at hlay
  have hst := (u_facts hfc hkC (u_lays (C := q.1) (T := q.2.1) (N := q.2.2) C.words hin hf) hi).1
  have hcf : m.cls = cf := by
    obtain ⟨_, _, c', _, _, _, -, -, hf', -, -, -, hown2, -⟩ := Cond.laysFinal_spec hlay
    have e1 : c' = cf := by have := hi.symm.trans hf'; simp at this; exact this.1.symm
    rw [hdecl rfl] at hown2
    rw [← e1]; exact Option.some.inj (C.owns.symm.trans hown2)
  have h6 := u_fits hfc hkC hkind (Or.inr hlay) hi hd1 hn hfit
  rcases hlk with hlk | ⟨hx, -⟩
  · refine W.putFinK C.exec C.bytes C.owns (C.words _ hlk) (C.same hsm _ hi) hst hcf (C.name.trans hin0) (by rw [q2]; exact h6) q1 q3 (by rw [hsl]; exact k2_hasslot (q6 f hf)) rfl rfl hd fun H' e1 e2 e3 => ?_
    rw [hsl] at e1
    refine kk p e R s m args below meth c Qf C F H' _ cells slots ls (hR.put hb e2 e3 (Or.inl ⟨hb, q, h22, hq, by simpa using q5, t_OB.to (V := updV (vp_V o.2.2) f v) ⟨_, e1, q2, q3, t_set q6 hap hf v⟩ (fun j _ => vp_updV_set (by omega) v j)⟩)) ?_ hc hs hL
    intro z hz
    rcases List.mem_append.mp hz with h1 | h1
    · exact hl z h1
    · rw [List.mem_singleton.mp h1]; exact hb
  · cases hx
/-- class k can be made here by entry i; its fresh fields are fs -/
def NWF (own : String) (i k : Nat) (fs : List Value) : Prop := ∃ (r : vw_C) (tyf : Nat → FieldType), vwCl[k]? = some r ∧ k ≠ 22 ∧ (∀ w ∈ u_ws r.1 r.2.1 r.2.2, w ∈ lw_all) ∧ (∀ k, k < r.2.2 → parseFieldDescriptor (r.2.1 k).2.2.1 = some (tyf k)) ∧ (∀ j, j < r.2.2 → defaultValue (tyf j) = vp_V fs j) ∧ r.2.2 = fs.length ∧
  Cond.classLink own i r.1 ∈ lw_all ∧ Cond.instantiable r.1 r.2.2 ∈ lw_all ∧ Cond.initialized r.1 ∈ lw_all
theorem R_new {i k : Nat} {fs : List Value} (g b : Nat) (hd : decode M.code pc = .ok (.new i, 3)) (hw : NWF M.y.cls i k fs) (hb : fs.length ≤ 4 * b ∧ 1 ≤ b) (hr : b ≤ r) (kk : At Ω M d (r - b) Q (pc + 3) L (.ref h.2 :: S) (hnew h (g, k, fs))) : At Ω M d r Q pc L S h := by
  intro p e R s m args below meth c Qf C F H locs cells slots ls hR hl hc hs hL
  obtain ⟨q, tyf, hq, h22, hin, hty, hdef, hlen, h1, h2, h3⟩ := hw
  obtain ⟨hS, hfc, kC0, hkC0, hkind0⟩ := C.K.1 _ _ hq
  refine W.newcK C.exec C.bytes (n := q.2.2) C.owns (C.words _ h1) (C.words _ h2) (C.words _ h3) rfl hd (by omega) (by omega) hfc (h := H.size) rfl fun H' kC f1 f2 f3 f4 => ?_
  refine W.widen (k := cells + b) (n := slots + 4 * b) (by omega) (by omega) ?_
  have ho := u_born (C := q.1) (T := q.2.1) (N := q.2.2) tyf C.words hin (C.K.1 _ _ hq) f1 f2 hty
  have K := kk p e R s m args below meth c Qf C F H' locs (cells + b) (slots + 4 * b) ls (hR.push f3 f4 (Or.inl ⟨hR.2.1, q, h22, hq, hlen, t_OB.to ho (fun j hj => hdef j hj)⟩)) hl (by omega) (by omega) hL
  rw [hR.1] at K
  exact K
theorem R_newarray {i j : Nat} {n : Int32} {N : Nat} {atype : ArrayType} {q : ClassId × FieldType} {dv : Value} (g b : Nat) (hd : decode M.code pc = .ok (.newarray atype, 2)) (hw : Cond.arrayClass (newarray.typeOf atype) ∈ lw_all) (hq : (tysOf Ω.A)[j]? = some q) (hj : j < 7) (hqt : q.2 = newarray.typeOf atype) (hp : (∀ C, newarray.typeOf atype ≠ .object C)) (hdv : defaultValue (newarray.typeOf atype) = dv) (hn : n = nI N) (hN : N ≤ 100000) (hb : N ≤ 4 * b ∧ 1 ≤ b) (hr : b ≤ r) (kk : At Ω M d (r - b) Q (pc + 2) L (.ref h.2 :: S) (hnew h (g, 100 + j, List.replicate N dv))) : At Ω M d r Q pc L (.int n :: S) h := by
  intro p e R s m args below meth c Qf C F H locs cells slots ls hR hl hc hs hL
  subst hn
  have hcl : (nI N).toNatClampNeg = N := nI_clamp (by omega)
  have hcb : componentBytes (newarray.typeOf atype) ≤ 8 := by cases atype <;> decide
  refine W.newa C.exec C.bytes (C.words _ hw) rfl hd rfl (nI_pos (by omega)) (by rw [hcl]; exact Nat.le_trans (Nat.mul_le_mul hN hcb) (by decide)) (by omega) (by rw [hcl]; omega) fun cA kA comp f1 f2 f3 => ?_
  rw [hcl, hdv]
  refine W.widen (k := cells + b) (n := slots + 4 * b) (by omega) (by omega) ?_
  have hra := (C.K.2 j q hq).2
  have hcA : cA = q.1 := by
    have h2 : s.vm.findClass ("[" ++ q.2.toString) = some q.1 := by
      rw [hqt] at hra ⊢
      revert hra
      cases hxx : newarray.typeOf atype with
      | object C => exact absurd hxx (hp C)
      | _ => exact id
    rw [hqt] at h2
    exact Option.some.inj (f1.symm.trans h2)
  subst hcA
  rw [arrV_new]
  have z1 : (H.push (arrV q.1 N (fun _ => dv))).size = H.size + 1 := Array.size_push _
  have K := kk p e R s m args below meth c Qf C F (H.push (arrV q.1 N (fun _ => dv))) locs (cells + b) (slots + 4 * b) ls (hR.push z1 (fun x hx => by rw [Array.getElem?_push, if_neg (Nat.ne_of_lt hx)]) (Or.inr (Or.inl ⟨hR.2.1, j, q, rfl, hj, hq, by
    rw [Array.getElem?_push_size]
    congr 1
    show arrV q.1 N _ = arrV q.1 (List.replicate N dv).length _
    rw [List.length_replicate]
    unfold arrV
    congr 1
    apply Array.ext
    · simp
    · intro i h1 h2
      simp at h1
      simp [vp_V, List.getElem?_replicate, h1]⟩))) hl (by omega) (by omega) hL
  rw [hR.1] at K
  exact K
theorem R_anewarray {i j : Nat} {n : Int32} {N : Nat} {E : String} (g b : Nat) (hd : decode M.code pc = .ok (.anewarray i, 3)) (hw : Cond.classLink M.y.cls i E ∈ lw_all) (ho : E ∈ aoL) (hq : ∃ cA, (tysOf Ω.A)[j]? = some (cA, .object E)) (hj : j < 7) (hn : n = nI N) (hN : N ≤ 100000) (hb : N ≤ 4 * b ∧ 1 ≤ b) (hr : b ≤ r) (kk : At Ω M d (r - b) Q (pc + 3) L (.ref h.2 :: S) (hnew h (g, 100 + j, List.replicate N .null))) : At Ω M d r Q pc L (.int n :: S) h := by
  intro p e R s m args below meth c Qf C F H locs cells slots ls hR hl hc hs hL
  subst hn
  obtain ⟨cA0, hq⟩ := hq
  have hcl : (nI N).toNatClampNeg = N := nI_clamp (by omega)
  refine W.anew C.exec C.bytes C.owns (C.words _ hw) (va_AO.use (C.ao ho)) rfl hd rfl (nI_pos (by omega)) (by rw [hcl]; omega) (by omega) (by rw [hcl]; omega) fun cA kA comp f1 f2 f3 f4 => ?_
  rw [hcl]
  refine W.widen (k := cells + b) (n := slots + 4 * b) (by omega) (by omega) ?_
  obtain ⟨kA', comp', -, -, -, h2⟩ := (C.K.2 j _ hq).2
  have hcA : cA = cA0 := Option.some.inj (f1.symm.trans h2)
  subst hcA
  rw [arrV_new]
  have z1 : (H.push (arrV cA N (fun _ => .null))).size = H.size + 1 := Array.size_push _
  have K := kk p e R s m args below meth c Qf C F (H.push (arrV cA N (fun _ => .null))) locs (cells + b) (slots + 4 * b) ls (hR.push z1 (fun x hx => by rw [Array.getElem?_push, if_neg (Nat.ne_of_lt hx)]) (Or.inr (Or.inl ⟨hR.2.1, j, _, rfl, hj, hq, by
    rw [Array.getElem?_push_size]
    congr 1
    show arrV cA N _ = arrV cA (List.replicate N Value.null).length _
    rw [List.length_replicate]
    unfold arrV
    congr 1
    apply Array.ext
    · simp
    · intro i h1 h2
      simp at h1
      simp [vp_V, List.getElem?_replicate, h1]⟩))) hl (by omega) (by omega) hL
  rw [hR.1] at K
  exact K
/-! arrays -/
theorem idx_ok {x : Int32} {n N : Nat} (hx : x = nI n) (hn : n < N) (hb : n < 2 ^ 31) : ¬ (x < 0 ∨ N ≤ x.toNatClampNeg) ∧ x.toNatClampNeg = n := by
  subst hx
  have hc : (nI n).toNatClampNeg = n := nI_clamp hb
  refine ⟨fun q => ?_, hc⟩
  rcases q with q | q
  · exact nI_pos hb q
  · rw [hc] at q; omega
theorem R_alen {a j g : Nat} {vs : List Value} {q : ClassId × FieldType} {n : Int32} (hd : decode M.code pc = .ok (.arraylength, 1)) (ha : h.1 a = some (g, 100 + j, vs)) (hq : (tysOf Ω.A)[j]? = some q) (hn : nI vs.length = n) (kk : At Ω M d r Q (pc + 1) L (.int n :: S) h) : At Ω M d r Q pc L (.ref a :: S) h := by
  intro p e R s m args below meth c Qf C F H locs cells slots ls hR hl hc hs hL
  obtain ⟨cell, q1, q2, q3, q4, q5⟩ := hR.arr C.K C.alike ha hq
  exact W.alen (n := n) C.exec C.bytes q1 q2 (by rw [q4]; exact hn) rfl rfl hd (kk p e R s m args below meth c Qf C F H locs cells slots ls hR hl hc hs hL)
theorem R_iaload {a j g n : Nat} {vs : List Value} {x : Int32} {v : Value} (hd : decode M.code pc = .ok (.iaload, 1)) (ha : h.1 a = some (g, 100 + j, vs)) (hq : ∃ cA, (tysOf Ω.A)[j]? = some (cA, .int)) (hx : x = nI n) (hb : n < 2147483648) (hv : vs[n]? = some v) (kk : At Ω M d r Q (pc + 1) L (v :: S) h) : At Ω M d r Q pc L (.int x :: .ref a :: S) h := by
  intro p e R s m args below meth c Qf C F H locs cells slots ls hR hl hc hs hL
  obtain ⟨cA, hq⟩ := hq
  obtain ⟨cell, q1, q2, q3, q4, q5⟩ := hR.arr C.K C.alike ha hq
  obtain ⟨h1, h2⟩ := idx_ok hx (List.getElem?_eq_some_iff.mp hv).1 hb
  exact W.iald C.exec C.bytes q1 q2 q3 (by rw [q4]; exact h1) (by rw [h2]; exact q5 n v hv) rfl rfl hd (kk p e R s m args below meth c Qf C F H locs cells slots ls hR hl hc hs hL)
theorem R_laload {a j g n : Nat} {vs : List Value} {x : Int32} {v : Value} (hd : decode M.code pc = .ok (.laload, 1)) (ha : h.1 a = some (g, 100 + j, vs)) (hq : ∃ cA, (tysOf Ω.A)[j]? = some (cA, .long)) (hx : x = nI n) (hb : n < 2147483648) (hv : vs[n]? = some v) (kk : At Ω M d r Q (pc + 1) L (v :: S) h) : At Ω M d r Q pc L (.int x :: .ref a :: S) h := by
  intro p e R s m args below meth c Qf C F H locs cells slots ls hR hl hc hs hL
  obtain ⟨cA, hq⟩ := hq
  obtain ⟨cell, q1, q2, q3, q4, q5⟩ := hR.arr C.K C.alike ha hq
  obtain ⟨h1, h2⟩ := idx_ok hx (List.getElem?_eq_some_iff.mp hv).1 hb
  exact W.lald C.exec C.bytes q1 q2 q3 (by rw [q4]; exact h1) (by rw [h2]; exact q5 n v hv) rfl rfl hd (kk p e R s m args below meth c Qf C F H locs cells slots ls hR hl hc hs hL)
theorem R_baload {a j g n : Nat} {vs : List Value} {x : Int32} {v : Value} (hd : decode M.code pc = .ok (.baload, 1)) (ha : h.1 a = some (g, 100 + j, vs)) (hq : ∃ cA, (tysOf Ω.A)[j]? = some (cA, .byte)) (hx : x = nI n) (hb : n < 2147483648) (hv : vs[n]? = some v) (kk : At Ω M d r Q (pc + 1) L (v :: S) h) : At Ω M d r Q pc L (.int x :: .ref a :: S) h := by
  intro p e R s m args below meth c Qf C F H locs cells slots ls hR hl hc hs hL
  obtain ⟨cA, hq⟩ := hq
  obtain ⟨cell, q1, q2, q3, q4, q5⟩ := hR.arr C.K C.alike ha hq
  obtain ⟨h1, h2⟩ := idx_ok hx (List.getElem?_eq_some_iff.mp hv).1 hb
  exact W.bald C.exec C.bytes q1 q2 q3 (by rw [q4]; exact h1) (by rw [h2]; exact q5 n v hv) rfl rfl hd (kk p e R s m args below meth c Qf C F H locs cells slots ls hR hl hc hs hL)
theorem R_aaload {a j g n : Nat} {vs : List Value} {x : Int32} {v : Value} (hd : decode M.code pc = .ok (.aaload, 1)) (ha : h.1 a = some (g, 100 + j, vs)) (hq : ∃ cA E, (tysOf Ω.A)[j]? = some (cA, .object E)) (hx : x = nI n) (hb : n < 2147483648) (hv : vs[n]? = some v) (kk : At Ω M d r Q (pc + 1) L (v :: S) h) : At Ω M d r Q pc L (.int x :: .ref a :: S) h := by
  intro p e R s m args below meth c Qf C F H locs cells slots ls hR hl hc hs hL
  obtain ⟨cA, E, hq⟩ := hq
  obtain ⟨cell, q1, q2, q3, q4, q5⟩ := hR.arr C.K C.alike ha hq
  obtain ⟨h1, h2⟩ := idx_ok hx (List.getElem?_eq_some_iff.mp hv).1 hb
  exact W.aald (ty := .object E) C.exec C.bytes q1 q2 rfl q3 (by rw [q4]; exact h1) (by rw [h2]; exact q5 n v hv) rfl rfl hd (kk p e R s m args below meth c Qf C F H locs cells slots ls hR hl hc hs hL)
/-- an array of ours, as it lies in the machine -/
theorem Rel.arrOwn {H : Heap} {a j g : Nat} {vs : List Value} (hR : Rel Ω h H) (ha : h.1 a = some (g, 100 + j, vs)) (hj : j < 7) : Ω.base ≤ a ∧ ∃ q : ClassId × FieldType, (tysOf Ω.A)[j]? = some q ∧ H[a]? = some (arrV q.1 vs.length (vp_V vs)) := by
  rcases hR.2.2.2 a _ ha with ⟨_, r, -, hr, -⟩ | ⟨hb, j', q', hj', -, hq', hc⟩ | ⟨hb, ⟨r, cell, -, hr, -⟩ | ⟨j', q', cell, hj', h7, -⟩⟩
  · rw [show (g, 100 + j, vs).2.1 = 100 + j from rfl, vwCl_no] at hr
    cases hr
  · have e : j = j' := by
      have : 100 + j = 100 + j' := hj'
      omega
    subst e
    exact ⟨hb, q', hq', hc⟩
  · rw [show (g, 100 + j, vs).2.1 = 100 + j from rfl, vwCl_no] at hr
    cases hr
  · have : 100 + j = 100 + j' := hj'
    omega
theorem Rel.arrPut {H H1 : Heap} {a j g n : Nat} {vs : List Value} {q : ClassId × FieldType} {v : Value} (hR : Rel Ω h H) (hb : Ω.base ≤ a) (hj : j < 7) (hq : (tysOf Ω.A)[j]? = some q) (hn : n < vs.length) (e1 : H1[a]? = some ((arrV q.1 vs.length (vp_V vs)).setSlot n v)) (e2 : H1.size = H.size) (e3 : ∀ q : Nat, q ≠ a → H1[q]? = H[q]?) : Rel Ω (hput h a (g, 100 + j, vs.set n v)) H1 := by
  refine hR.put hb e2 e3 (Or.inr (Or.inl ⟨hb, j, q, rfl, hj, hq, ?_⟩))
  rw [e1, arrV_store]
  show some (arrV q.1 vs.length _) = some (arrV q.1 (vs.set n v).length _)
  rw [List.length_set]
  congr 2
  funext i
  exact vp_updV_set hn v i
theorem locs_put {a k : Nat} {locs : List Loc} (hl : ∀ z ∈ locs, Ω.base ≤ z.base) (hb : Ω.base ≤ a) : ∀ z ∈ locs ++ [(⟨a, k⟩ : Loc)], Ω.base ≤ z.base := by
  intro z hz
  rcases List.mem_append.mp hz with h1 | h1
  · exact hl z h1
  · rw [List.mem_singleton.mp h1]; exact hb
theorem R_iastore {a g n : Nat} {vs : List Value} {x y : Int32} (hd : decode M.code pc = .ok (.iastore, 1)) (ha : h.1 a = some (g, 100, vs)) (hx : x = nI n) (hb : n < 2147483648) (hn : n < vs.length) (kk : At Ω M d r Q (pc + 1) L S (hput h a (g, 100, vs.set n (.int y)))) : At Ω M d r Q pc L (.int y :: .int x :: .ref a :: S) h := by
  intro p e R s m args below meth c Qf C F H locs cells slots ls hR hl hc hs hL
  obtain ⟨hb0, q, hq, hcell⟩ := hR.arrOwn (j := 0) ha (by decide)
  obtain ⟨h1, h2⟩ := idx_ok hx hn hb
  have hqt : q.2 = .int := by cases hq; rfl
  have hof : s.isArrayOf (arrV q.1 vs.length (vp_V vs)) .int := by rw [← hqt]; exact (C.K.2 0 q hq).1 _ _
  refine W.iast C.exec C.bytes hcell hof (fun z => by cases z) (by rw [arrV_size]; exact h1) rfl rfl hd fun H1 e1 e2 e3 => ?_
  rw [h2] at e1
  exact kk p e R s m args below meth c Qf C F H1 _ cells slots ls (hR.arrPut (j := 0) hb0 (by decide) hq hn e1 e2 e3) (locs_put hl hb0) hc hs hL
theorem R_lastore {a g n : Nat} {vs : List Value} {x : Int32} {y : Int64} (hd : decode M.code pc = .ok (.lastore, 1)) (ha : h.1 a = some (g, 102, vs)) (hx : x = nI n) (hb : n < 2147483648) (hn : n < vs.length) (kk : At Ω M d r Q (pc + 1) L S (hput h a (g, 102, vs.set n (.long y)))) : At Ω M d r Q pc L (.long y :: .int x :: .ref a :: S) h := by
  intro p e R s m args below meth c Qf C F H locs cells slots ls hR hl hc hs hL
  obtain ⟨hb0, q, hq, hcell⟩ := hR.arrOwn (j := 2) ha (by decide)
  obtain ⟨h1, h2⟩ := idx_ok hx hn hb
  have hqt : q.2 = .long := by cases hq; rfl
  have hof : s.isArrayOf (arrV q.1 vs.length (vp_V vs)) .long := by rw [← hqt]; exact (C.K.2 2 q hq).1 _ _
  refine W.last C.exec C.bytes hcell hof (fun z => by cases z) (by rw [arrV_size]; exact h1) rfl rfl hd fun H1 e1 e2 e3 => ?_
  rw [h2] at e1
  exact kk p e R s m args below meth c Qf C F H1 _ cells slots ls (hR.arrPut (j := 2) hb0 (by decide) hq hn e1 e2 e3) (locs_put hl hb0) hc hs hL
theorem R_bastore {a g n : Nat} {vs : List Value} {x y : Int32} (hd : decode M.code pc = .ok (.bastore, 1)) (ha : h.1 a = some (g, 101, vs)) (hx : x = nI n) (hb : n < 2147483648) (hn : n < vs.length) (hy : y.toInt8.toInt32 = y) (kk : At Ω M d r Q (pc + 1) L S (hput h a (g, 101, vs.set n (.int y)))) : At Ω M d r Q pc L (.int y :: .int x :: .ref a :: S) h := by
  intro p e R s m args below meth c Qf C F H locs cells slots ls hR hl hc hs hL
  obtain ⟨hb0, q, hq, hcell⟩ := hR.arrOwn (j := 1) ha (by decide)
  obtain ⟨h1, h2⟩ := idx_ok hx hn hb
  have hqt : q.2 = .byte := by cases hq; rfl
  have hof : s.isArrayOf (arrV q.1 vs.length (vp_V vs)) .byte := by rw [← hqt]; exact (C.K.2 1 q hq).1 _ _
  refine W.bast C.exec C.bytes hcell hof (fun z => by cases z) (by rw [arrV_size]; exact h1) rfl rfl hd fun H1 e1 e2 e3 => ?_
  rw [h2, narrow_byte, hy] at e1
  exact kk p e R s m args below meth c Qf C F H1 _ cells slots ls (hR.arrPut (j := 1) hb0 (by decide) hq hn e1 e2 e3) (locs_put hl hb0) hc hs hL
/-- the cell's class, for casts and calls -/
theorem Rel.recv {H : Heap} {s : State} {a : Nat} {o : Obj} {q : vw_C} (hK : va_K Ω.D vwCl (tysOf Ω.A) s) (hR : Rel Ω h H) (ha : h.1 a = some o) (hq : vwCl[o.2.1]? = some q) : ∃ cell : Cell, H[a]? = some cell ∧ cell.vm.isStatics = false ∧ s.vm.findClass q.1 = some cell.cls := by
  obtain ⟨cell, q1, q2, q3, -⟩ := hR.obj ha hq
  exact ⟨cell, q1, q3, by rw [q2]; exact (hK.1 _ _ hq).2.1⟩
theorem R_aastore {a v j g n : Nat} {vs : List Value} {x : Int32} {o : Obj} {q : vw_C} {E : String} (hd : decode M.code pc = .ok (.aastore, 1)) (ha : h.1 a = some (g, 100 + j, vs)) (hj : j < 7) (hE : ∃ cA, (tysOf Ω.A)[j]? = some (cA, .object E)) (hv : h.1 v = some o) (hq : vwCl[o.2.1]? = some q) (hca : Cond.castable q.1 E ∈ lw_tbl ∨ q.1 = E) (hx : x = nI n) (hb : n < 2147483648) (hn : n < vs.length) (kk : At Ω M d r Q (pc + 1) L S (hput h a (g, 100 + j, vs.set n (.ref v)))) : At Ω M d r Q pc L (.ref v :: .int x :: .ref a :: S) h := by
  intro p e R s m args below meth c Qf C F H locs cells slots ls hR hl hc hs hL
  obtain ⟨cA, hE⟩ := hE
  obtain ⟨hb0, q', hq', hcell⟩ := hR.arrOwn ha hj
  cases hE.symm.trans hq'
  obtain ⟨h1, h2⟩ := idx_ok hx hn hb
  obtain ⟨cv, g1, g2, g3⟩ := hR.recv C.K hv hq
  have hcls := (C.K.1 _ _ hq).2
  obtain ⟨kC, hkC, hkk⟩ := hcls.2
  have hcv : cv.cls = Ω.D.1 o.2.1 := (Option.some.inj (hcls.1.symm.trans g3)).symm
  obtain ⟨kA, comp, k1, k2, k3, -⟩ := (C.K.2 j _ hq').2
  obtain ⟨kE, hkE, -⟩ := Vm.findClass_spec k3
  have hasg : s.vm.assignable (Ω.D.1 o.2.1) comp = true := by
    rcases hca with hca | hca
    · obtain ⟨c0, t1, f1, f2, f3⟩ := Cond.castable_spec (va_Nw.use (A := args) rfl (C.nw hca rfl))
      cases hcls.1.symm.trans f1
      cases k3.symm.trans f2
      exact f3
    · subst hca
      cases k3.symm.trans hcls.1
      exact va_assign hcls
  refine W.aast C.exec C.bytes hcell (fun q h => by cases h) (fun h => by cases h) k1 k2 rfl hkE ⟨fun z => h1 (Or.inl z), by rw [arrV_size, h2]; exact hn⟩ g1 (fun q h => by rw [h] at g2; cases g2) (by rw [hcv]; exact hkC) (by rw [hcv]; exact hasg) rfl rfl hd fun H1 e1 e2 e3 => ?_
  rw [h2] at e1
  exact kk p e R s m args below meth c Qf C F H1 _ cells slots ls (hR.arrPut hb0 hj hq' hn e1 e2 e3) (locs_put hl hb0) hc hs hL
theorem R_aastoreN {a j g n : Nat} {vs : List Value} {x : Int32} {E : String} (hd : decode M.code pc = .ok (.aastore, 1)) (ha : h.1 a = some (g, 100 + j, vs)) (hj : j < 7) (hE : ∃ cA, (tysOf Ω.A)[j]? = some (cA, .object E)) (hx : x = nI n) (hb : n < 2147483648) (hn : n < vs.length) (kk : At Ω M d r Q (pc + 1) L S (hput h a (g, 100 + j, vs.set n .null))) : At Ω M d r Q pc L (.null :: .int x :: .ref a :: S) h := by
  intro p e R s m args below meth c Qf C F H locs cells slots ls hR hl hc hs hL
  obtain ⟨cA, hE⟩ := hE
  obtain ⟨hb0, q', hq', hcell⟩ := hR.arrOwn ha hj
  cases hE.symm.trans hq'
  obtain ⟨h1, h2⟩ := idx_ok hx hn hb
  refine va_WaastN (C := E) C.exec C.bytes hcell ((C.K.2 j _ hq').1 _ _) (fun h => by cases h) (by rw [arrV_size]; exact h1) rfl rfl hd fun H1 e1 e2 e3 => ?_
  rw [h2] at e1
  exact kk p e R s m args below meth c Qf C F H1 _ cells slots ls (hR.arrPut hb0 hj hq' hn e1 e2 e3) (locs_put hl hb0) hc hs hL
/-! casts, statics -/
theorem R_cast {i a : Nat} {o : Obj} {q : vw_C} {nm : String} (hd : decode M.code pc = .ok (.checkcast i, 3)) (hw : Cond.classLink M.y.cls i nm ∈ lw_all) (ha : h.1 a = some o) (hq : vwCl[o.2.1]? = some q) (hca : q.1 = nm ∨ Cond.castable q.1 nm ∈ lw_tbl) (kk : At Ω M d r Q (pc + 3) L (.ref a :: S) h) : At Ω M d r Q pc L (.ref a :: S) h := by
  intro p e R s m args below meth c Qf C F H locs cells slots ls hR hl hc hs hL
  have K := kk p e R s m args below meth c Qf C F H locs cells slots ls hR hl hc hs hL
  rcases hca with hca | hca
  · subst hca
    exact va_castS C.exec C.bytes C.owns (C.words _ hw) (C.K.1 _ _ hq).2 (hR.recv C.K ha hq) hd K
  · exact va_castY C.exec C.bytes C.owns (C.words _ hw) (C.nw hca rfl) (hR.recv C.K ha hq) hd K
theorem R_getstatic {i : Nat} {q : String × String × String × Value} (hd : decode M.code pc = .ok (.getstatic i, 3)) (hz : q ∈ szL Ω) (hw : Cond.fieldLink M.y.cls i q.1 q.2.1 q.2.2.1 ∈ lw_all) (kk : At Ω M d r Q (pc + 3) L (q.2.2.2 :: S) h) : At Ω M d r Q pc L S h := by
  intro p e R s m args below meth c Qf C F H locs cells slots ls hR hl hc hs hL
  have K := kk p e R s m args below meth c Qf C F H locs cells slots ls hR hl hc hs hL
  have hZ := C.sz hz
  obtain ⟨cf, kf, fi, f, a, cell, h1, h2, h3, h4, h5, h6, h7, h8⟩ := hZ
  have ha : a < Ω.base := by
    rcases Nat.lt_or_ge a Ω.base with z | z
    · exact z
    · exact absurd z h8
  have h5' : H[a]? = some cell := by rw [hR.2.2.1 a ha, ← C.run.2.2 a ha]; exact h5
  exact W.gets C.exec C.bytes C.owns (C.words _ hw) h1 h2 h3 h4 h5' (fun z => by rw [z] at h6; cases h6) h7 rfl hd K
/-! the end of a frame -/
theorem R_ret {v : Option Value} (hd : decode M.code pc = .ok (retI v, 1)) (hS : v.toList = S) (hf : rFit M.ret v) (hQ : Q h (.inl v)) : At Ω M d r Q pc L S h := by
  intro p e R s m args below meth c Qf C F H locs cells slots ls hR hl hc hs hL
  subst hS
  exact F.1 h v H locs cells slots pc ls hR hQ hl (by omega) (by omega) hf hd
end
