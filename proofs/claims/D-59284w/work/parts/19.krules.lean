/-! rules that change the heap, with what is kept told by facts -/
set_option maxRecDepth 100000
/-- two cells of unlike kinds lie apart -/
theorem kne {h : Hp} {a b : Nat} {o p : Obj} (ha : h.1 a = some o) (hb : h.1 b = some p) (hk : o.2.1 ≠ p.2.1) : a ≠ b := by
  intro e
  subst e
  rw [ha] at hb
  cases hb
  exact hk rfl
/-- all but the cells of D is kept -/
def But (D : Nat → Prop) (h h' : Hp) : Prop := h.2 ≤ h'.2 ∧ ∀ (x : Nat) (o : Obj), h.1 x = some o → ¬ D x → h'.1 x = some o
theorem But.refl {D : Nat → Prop} {h : Hp} : But D h h := ⟨Nat.le_refl _, fun _ _ q _ => q⟩
theorem But.trans {D : Nat → Prop} {h h1 h2 : Hp} (a : But D h h1) (b : But D h1 h2) : But D h h2 := ⟨Nat.le_trans a.1 b.1, fun x o q n => b.2 x o (a.2 x o q n) n⟩
theorem But.mono {D E : Nat → Prop} {h h' : Hp} (a : But D h h') (hs : ∀ x, D x → E x) : But E h h' := ⟨a.1, fun x o q n => a.2 x o q (fun z => n (hs x z))⟩
section
variable {Ω : Wd} {M : MD} {d r : Nat} {Q : Hp → Out → Prop} {pc : Nat} {L : List (Option Value)} {S : List Value} {h : Hp}
theorem hput_at (h : Hp) (a : Nat) (o : Obj) : (hput h a o).1 a = some o := if_pos rfl
theorem hput_ne {h : Hp} {a x : Nat} {o p : Obj} (hx : x ≠ a) (q : h.1 x = some p) : (hput h a o).1 x = some p := by
  show (if x = a then _ else _) = _
  rw [if_neg hx]
  exact q
theorem hnew_at (h : Hp) (o : Obj) : (hnew h o).1 h.2 = some o := if_pos rfl
theorem K_put {i k f a g : Nat} {vs : List Value} {v : Value} {ty : FieldType} (hd : decode M.code pc = .ok (.putfield i, 3)) (hp : PF M.y.cls i k f ty false) (ha : h.1 a = some (g, k, vs)) (hn : narrow ty v = v) (hfit : fits ty v = true) (kk : ∀ h' : Hp, h'.1 a = some (g, k, vs.set f v) → (∀ (x : Nat) (o : Obj), x ≠ a → h.1 x = some o → h'.1 x = some o) → h'.2 = h.2 → At Ω M d r Q (pc + 3) L S h') : At Ω M d r Q pc L (v :: .ref a :: S) h :=
  R_putfield hd hp ha rfl hn hfit (kk _ (hput_at _ _ _) (fun _ _ hx q => hput_ne hx q) rfl)
theorem K_putF {i k f a g : Nat} {vs : List Value} {v : Value} {ty : FieldType} (hd : decode M.code pc = .ok (.putfield i, 3)) (hp : PF M.y.cls i k f ty true) (hini : M.y.name = "<init>") (ha : h.1 a = some (g, k, vs)) (hn : narrow ty v = v) (hfit : fits ty v = true) (kk : ∀ h' : Hp, h'.1 a = some (g, k, vs.set f v) → (∀ (x : Nat) (o : Obj), x ≠ a → h.1 x = some o → h'.1 x = some o) → h'.2 = h.2 → At Ω M d r Q (pc + 3) L S h') : At Ω M d r Q pc L (v :: .ref a :: S) h :=
  R_putfinal hd hp hini ha rfl hn hfit (kk _ (hput_at _ _ _) (fun _ _ hx q => hput_ne hx q) rfl)
theorem At.below (k : (∀ (x : Nat) (o : Obj), h.1 x = some o → x < h.2) → At Ω M d r Q pc L S h) : At Ω M d r Q pc L S h :=
  fun p e R s m args below meth c Qf C F H locs cells slots ls hR hl hc hs hL => k (fun x o q => by rw [hR.1]; exact hR.lt q) p e R s m args below meth c Qf C F H locs cells slots ls hR hl hc hs hL
theorem K_new {i k : Nat} {fs : List Value} (g b : Nat) (hd : decode M.code pc = .ok (.new i, 3)) (hw : NWF M.y.cls i k fs) (hb : fs.length ≤ 4 * b ∧ 1 ≤ b) (hr : b ≤ r) (kk : ∀ (a : Nat) (h' : Hp), a = h.2 → h'.1 a = some (g, k, fs) → (∀ (x : Nat) (o : Obj), h.1 x = some o → x ≠ a ∧ h'.1 x = some o) → h'.2 = h.2 + 1 → At Ω M d (r - b) Q (pc + 3) L (.ref a :: S) h') : At Ω M d r Q pc L S h :=
  At.below fun hlt => R_new g b hd hw hb hr (kk h.2 _ rfl (hnew_at _ _) (fun x o q => by
    have hne : x ≠ h.2 := by have := hlt x o q; omega
    refine ⟨hne, ?_⟩
    show (if x = h.2 then _ else _) = _
    rw [if_neg hne]
    exact q) rfl)
theorem K_newarray {j N : Nat} {atype : ArrayType} {q : ClassId × FieldType} {dv : Value} {n : Int32} (g b : Nat) (hd : decode M.code pc = .ok (.newarray atype, 2)) (hw : Cond.arrayClass (newarray.typeOf atype) ∈ lw_all) (hq : (tysOf Ω.A)[j]? = some q) (hj : j < 7) (hqt : q.2 = newarray.typeOf atype) (hp : (∀ C, newarray.typeOf atype ≠ .object C)) (hdv : defaultValue (newarray.typeOf atype) = dv) (hn : n = nI N) (hN : N ≤ 100000) (hb : N ≤ 4 * b ∧ 1 ≤ b) (hr : b ≤ r) (kk : ∀ (a : Nat) (h' : Hp), a = h.2 → h'.1 a = some (g, 100 + j, List.replicate N dv) → (∀ (x : Nat) (o : Obj), h.1 x = some o → x ≠ a ∧ h'.1 x = some o) → h'.2 = h.2 + 1 → At Ω M d (r - b) Q (pc + 2) L (.ref a :: S) h') : At Ω M d r Q pc L (.int n :: S) h :=
  At.below fun hlt => R_newarray (i := 0) g b hd hw hq hj hqt hp hdv hn hN hb hr (kk h.2 _ rfl (hnew_at _ _) (fun x o q => by
    have hne : x ≠ h.2 := by have := hlt x o q; omega
    refine ⟨hne, ?_⟩
    show (if x = h.2 then _ else _) = _
    rw [if_neg hne]
    exact q) rfl)
theorem K_anewarray {i j N : Nat} {n : Int32} {E : String} (g b : Nat) (hd : decode M.code pc = .ok (.anewarray i, 3)) (hw : Cond.classLink M.y.cls i E ∈ lw_all) (ho : E ∈ aoL) (hq : ∃ cA, (tysOf Ω.A)[j]? = some (cA, .object E)) (hj : j < 7) (hn : n = nI N) (hN : N ≤ 100000) (hb : N ≤ 4 * b ∧ 1 ≤ b) (hr : b ≤ r) (kk : ∀ (a : Nat) (h' : Hp), a = h.2 → h'.1 a = some (g, 100 + j, List.replicate N .null) → (∀ (x : Nat) (o : Obj), h.1 x = some o → x ≠ a ∧ h'.1 x = some o) → h'.2 = h.2 + 1 → At Ω M d (r - b) Q (pc + 3) L (.ref a :: S) h') : At Ω M d r Q pc L (.int n :: S) h :=
  At.below fun hlt => R_anewarray g b hd hw ho hq hj hn hN hb hr (kk h.2 _ rfl (hnew_at _ _) (fun x o q => by
    have hne : x ≠ h.2 := by have := hlt x o q; omega
    refine ⟨hne, ?_⟩
    show (if x = h.2 then _ else _) = _
    rw [if_neg hne]
    exact q) rfl)
theorem K_iast {a g N : Nat} {f : Nat → Int32} {i : Int} {y : Int32} (hd : decode M.code pc = .ok (.iastore, 1)) (ha : h.1 a = some (g, 100, ial N f)) (hN : N ≤ 100000) (hi : 0 ≤ i ∧ i < (N : Int)) (kk : ∀ h' : Hp, h'.1 a = some (g, 100, ial N (upd f i.toNat y)) → (∀ (x : Nat) (o : Obj), x ≠ a → h.1 x = some o → h'.1 x = some o) → h'.2 = h.2 → At Ω M d r Q (pc + 1) L S h') : At Ω M d r Q pc L (.int y :: .int (zI i) :: .ref a :: S) h :=
  Z_st hd ha hN hi (kk _ (hput_at _ _ _) (fun _ _ hx q => hput_ne hx q) rfl)
theorem K_aast {a v j g : Nat} {vs : List Value} {i : Int} {o : Obj} {q : vw_C} {E : String} (hd : decode M.code pc = .ok (.aastore, 1)) (ha : h.1 a = some (g, 100 + j, vs)) (hj : j < 7) (hE : ∃ cA, (tysOf Ω.A)[j]? = some (cA, .object E)) (hv : h.1 v = some o) (hq : vwCl[o.2.1]? = some q) (hca : Cond.castable q.1 E ∈ lw_tbl ∨ q.1 = E) (hl : vs.length ≤ 100000) (hi : 0 ≤ i ∧ i < (vs.length : Int)) (kk : ∀ h' : Hp, h'.1 a = some (g, 100 + j, vs.set i.toNat (.ref v)) → (∀ (x : Nat) (o : Obj), x ≠ a → h.1 x = some o → h'.1 x = some o) → h'.2 = h.2 → At Ω M d r Q (pc + 1) L S h') : At Ω M d r Q pc L (.ref v :: .int (zI i) :: .ref a :: S) h :=
  R_aastore hd ha hj hE hv hq hca (zI_nI' hi.1) (by omega) (by omega) (kk _ (hput_at _ _ _) (fun _ _ hx q => hput_ne hx q) rfl)
theorem K_aastN {a j g : Nat} {vs : List Value} {i : Int} {E : String} (hd : decode M.code pc = .ok (.aastore, 1)) (ha : h.1 a = some (g, 100 + j, vs)) (hj : j < 7) (hE : ∃ cA, (tysOf Ω.A)[j]? = some (cA, .object E)) (hl : vs.length ≤ 100000) (hi : 0 ≤ i ∧ i < (vs.length : Int)) (kk : ∀ h' : Hp, h'.1 a = some (g, 100 + j, vs.set i.toNat .null) → (∀ (x : Nat) (o : Obj), x ≠ a → h.1 x = some o → h'.1 x = some o) → h'.2 = h.2 → At Ω M d r Q (pc + 1) L S h') : At Ω M d r Q pc L (.null :: .int (zI i) :: .ref a :: S) h :=
  R_aastoreN hd ha hj hE (zI_nI' hi.1) (by omega) (by omega) (kk _ (hput_at _ _ _) (fun _ _ hx q => hput_ne hx q) rfl)
theorem K_aald {a j g : Nat} {vs : List Value} {i : Int} {v : Value} (hd : decode M.code pc = .ok (.aaload, 1)) (ha : h.1 a = some (g, 100 + j, vs)) (hq : ∃ cA E, (tysOf Ω.A)[j]? = some (cA, .object E)) (hi : 0 ≤ i ∧ i < 100000) (hv : vs[i.toNat]? = some v) (kk : At Ω M d r Q (pc + 1) L (v :: S) h) : At Ω M d r Q pc L (.int (zI i) :: .ref a :: S) h :=
  R_aaload hd ha hq (zI_nI' hi.1) (by omega) hv kk
theorem K_alen {a j g : Nat} {vs : List Value} {q : ClassId × FieldType} {n : Int} (hd : decode M.code pc = .ok (.arraylength, 1)) (ha : h.1 a = some (g, 100 + j, vs)) (hq : (tysOf Ω.A)[j]? = some q) (hn : (vs.length : Int) = n) (kk : At Ω M d r Q (pc + 1) L (.int (zI n) :: S) h) : At Ω M d r Q pc L (.ref a :: S) h :=
  R_alen hd ha hq (by rw [zI_nI, hn]) kk
/-- an int array, by whole numbers -/
abbrev iarr (N : Nat) (F : Int → Int) : List Value := ial N (fun k => zI (F (k : Int)))
theorem K_ild {a g N : Nat} {F : Int → Int} {i : Int} (hd : decode M.code pc = .ok (.iaload, 1)) (ha : h.1 a = some (g, 100, iarr N F)) (hi : (0 ≤ i ∧ i < (N : Int)) ∧ N ≤ 100000) (kk : At Ω M d r Q (pc + 1) L (.int (zI (F i)) :: S) h) : At Ω M d r Q pc L (.int (zI i) :: .ref a :: S) h :=
  Z_ld (j := 0) hd ha ⟨_, rfl⟩ hi.2 hi.1 (by show zI (F _) = _; rw [Int.toNat_of_nonneg hi.1.1]) kk
theorem iarr_set {N : Nat} {F : Int → Int} {i v : Int} (hi : 0 ≤ i) : ial N (upd (fun k => zI (F (k : Int))) i.toNat (zI v)) = iarr N (us F i v) := by
  apply ial_ext
  intro k hk
  by_cases e : k = i.toNat
  · rw [show upd (fun k => zI (F (k : Int))) i.toNat (zI v) k = zI v from if_pos e]
    show _ = zI (us F i v k)
    rw [show us F i v (k : Int) = v from if_pos (by omega)]
  · rw [show upd (fun k => zI (F (k : Int))) i.toNat (zI v) k = zI (F (k : Int)) from if_neg e]
    show _ = zI (us F i v k)
    rw [us_ne (by omega)]
theorem K_ist {a g N : Nat} {F : Int → Int} {i v : Int} (hd : decode M.code pc = .ok (.iastore, 1)) (ha : h.1 a = some (g, 100, iarr N F)) (hi : (0 ≤ i ∧ i < (N : Int)) ∧ N ≤ 100000) (kk : ∀ h' : Hp, h'.1 a = some (g, 100, iarr N (us F i v)) → (∀ (x : Nat) (o : Obj), x ≠ a → h.1 x = some o → h'.1 x = some o) → h'.2 = h.2 → At Ω M d r Q (pc + 1) L S h') : At Ω M d r Q pc L (.int (zI v) :: .int (zI i) :: .ref a :: S) h :=
  K_iast hd ha hi.2 hi.1 (fun h' e n s => kk h' (by rw [e, iarr_set hi.1.1]) n s)
end
theorem But.put {D : Nat → Prop} {h h1 h2 : Hp} {a : Nat} (b : But D h h1) (n : ∀ (x : Nat) (o : Obj), x ≠ a → h1.1 x = some o → h2.1 x = some o) (s : h2.2 = h1.2) (hD : D a) : But D h h2 :=
  ⟨by rw [s]; exact b.1, fun x o q z => n x o (fun e => z (e ▸ hD)) (b.2 x o q z)⟩
theorem But.new {D : Nat → Prop} {h h1 h2 : Hp} {a : Nat} (b : But D h h1) (n : ∀ (x : Nat) (o : Obj), h1.1 x = some o → x ≠ a ∧ h2.1 x = some o) (s : h2.2 = h1.2 + 1) : But D h h2 :=
  ⟨by rw [s]; have := b.1; omega, fun x o q z => (n x o (b.2 x o q z)).2⟩
theorem nbB (p : Prop) : narrow .boolean (.int (zI (b2i p))) = .int (zI (b2i p)) := by
  by_cases h : p
  · rw [b2i_1 h]; decide
  · rw [b2i_0 h]; decide
theorem fbB (p : Prop) : fits .boolean (.int (zI (b2i p))) = true := by
  by_cases h : p
  · rw [b2i_1 h]; decide
  · rw [b2i_0 h]; decide
