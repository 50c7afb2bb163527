/-! forms of the rules for the printed walks -/
set_option maxRecDepth 100000
/-- a boolean as an int -/
def bI (b : Bool) : Int32 := if b then nI 1 else nI 0
theorem bI_t : bI true = nI 1 := rfl
theorem bI_f : bI false = nI 0 := rfl
theorem bI_nar (b : Bool) : narrow .boolean (.int (bI b)) = .int (bI b) := by cases b <;> decide
theorem rf_v {ret : Option FieldType} (h : ret = none) : rFit ret none := h
theorem rf_i {ret : Option FieldType} {x : Int32} (h : ret = some .int) : rFit ret (some (.int x)) := ⟨_, h, rfl⟩
theorem rf_z {ret : Option FieldType} (b : Bool) (h : ret = some .boolean) : rFit ret (some (.int (bI b))) := ⟨_, h, bI_nar b⟩
theorem rf_z1 {ret : Option FieldType} (h : ret = some .boolean) : rFit ret (some (.int (nI 1))) := ⟨_, h, bI_nar true⟩
theorem rf_z0 {ret : Option FieldType} (h : ret = some .boolean) : rFit ret (some (.int (nI 0))) := ⟨_, h, bI_nar false⟩
theorem rf_o {ret : Option FieldType} {C : String} {a : Nat} (h : ret = some (.object C)) : rFit ret (some (.ref a)) := ⟨_, h, Or.inl ⟨C, rfl⟩⟩
theorem rf_on {ret : Option FieldType} {C : String} (h : ret = some (.object C)) : rFit ret (some .null) := ⟨_, h, Or.inl ⟨C, rfl⟩⟩
theorem rf_a {ret : Option FieldType} {t : FieldType} {a : Nat} (h : ret = some (.array t)) : rFit ret (some (.ref a)) := ⟨_, h, Or.inr ⟨t, rfl⟩⟩
/-- int arrays -/
def ial (n : Nat) (f : Nat → Int32) : List Value := (List.range n).map (fun k => .int (f k))
theorem ial_len (n : Nat) (f : Nat → Int32) : (ial n f).length = n := by simp [ial]
theorem ial_get {n k : Nat} (f : Nat → Int32) (h : k < n) : (ial n f)[k]? = some (.int (f k)) := by simp [ial, h]
theorem ial_set {n k : Nat} (f : Nat → Int32) (x : Int32) : (ial n f).set k (.int x) = ial n (upd f k x) := by
  apply List.ext_getElem?
  intro i
  rw [List.getElem?_set]
  by_cases e : k = i
  · subst e
    by_cases hk : k < n
    · simp [ial, hk, upd]
    · simp [ial, hk]
  · rw [if_neg e]
    by_cases hi : i < n
    · rw [ial_get _ hi, ial_get _ hi]
      have e2 : i ≠ k := fun q => e q.symm
      simp [upd, e2]
    · simp [ial, hi]
theorem ial_new (n : Nat) : List.replicate n (Value.int 0) = ial n (fun _ => nI 0) := by
  apply List.ext_getElem?
  intro i
  simp only [ial, List.getElem?_replicate, List.getElem?_map]
  by_cases hi : i < n
  · simp [hi]; rfl
  · simp [hi]
theorem ial_ext {n : Nat} {f g : Nat → Int32} (h : ∀ k, k < n → f k = g k) : ial n f = ial n g := by
  simp only [ial]
  apply List.map_congr_left
  intro k hk
  rw [h k (List.mem_range.mp hk)]
section
variable {Ω : Wd} {M : MD} {d r : Nat} {Q : Hp → Out → Prop} {h : Hp} {N : MD} {i n pc : Nat} {L : List (Option Value)} {S S0 As : List Value} {a : Nat} {o : Obj} {q : vw_C}
theorem R_iald {a j g n N : Nat} {f : Nat → Int32} {x : Int32} (hd : decode M.code pc = .ok (.iaload, 1)) (ha : h.1 a = some (g, 100 + j, ial N f)) (hq : ∃ cA, (tysOf Ω.A)[j]? = some (cA, .int)) (hx : x = nI n) (hn : n < N) (hN : N ≤ 100000) (kk : At Ω M d r Q (pc + 1) L (.int (f n) :: S) h) : At Ω M d r Q pc L (.int x :: .ref a :: S) h :=
  R_iaload hd ha hq hx (by omega) (ial_get f hn) kk
theorem R_iast {a g n N : Nat} {f : Nat → Int32} {x y : Int32} (hd : decode M.code pc = .ok (.iastore, 1)) (ha : h.1 a = some (g, 100, ial N f)) (hx : x = nI n) (hn : n < N) (hN : N ≤ 100000) (kk : At Ω M d r Q (pc + 1) L S (hput h a (g, 100, ial N (upd f n y)))) : At Ω M d r Q pc L (.int y :: .int x :: .ref a :: S) h :=
  R_iastore hd ha hx (by omega) (by rw [ial_len]; exact hn) (by rw [ial_set]; exact kk)
theorem R_if_eqB {b : Bool} {off : Int} {tgt : Nat} (hd : decode M.code pc = .ok (.ifCond .eq off, 3)) (ht : (pc : Int) + off = (tgt : Int)) (kt : b = false → At Ω M d r Q tgt L S h) (kf : b = true → At Ω M d r Q (pc + 3) L S h) : At Ω M d r Q pc L (.int (bI b) :: S) h :=
  R_if_eq hd ht (fun z => kt (by cases b; rfl; exact absurd z (by decide))) (fun z => kf (by cases b; exact absurd rfl z; rfl))
theorem R_if_neB {b : Bool} {off : Int} {tgt : Nat} (hd : decode M.code pc = .ok (.ifCond .ne off, 3)) (ht : (pc : Int) + off = (tgt : Int)) (kt : b = true → At Ω M d r Q tgt L S h) (kf : b = false → At Ω M d r Q (pc + 3) L S h) : At Ω M d r Q pc L (.int (bI b) :: S) h :=
  R_if_ne hd ht (fun z => kt (by cases b; exact absurd rfl z; rfl)) (fun z => kf (by cases b; rfl; exact absurd z (by decide)))
theorem R_cV0 {X : String} (rc : Nat) (hd : decode M.code pc = .ok (.invokevirtual i, 3)) (hno : M.hh = none) (hv : CV M.y.cls i X N 0) (ha : h.1 a = some o) (hq : vwCl[o.2.1]? = some q) (hX : q.1 = X) (h8 : (S.map fun v => v.category).sum ≤ 8) (hr : rc ≤ r) (hok : Ok Ω N d rc [.ref a] h (kq Ω M (d + 1) (r - rc) Q (pc + 3) L S)) : At Ω M (d + 1) r Q pc L (.ref a :: S) h := by
  subst hX
  exact R_callV (As := []) rc hd hno hv ha hq rfl rfl h8 hr hok
theorem R_cVX0 {X : String} (rc : Nat) (hd : decode M.code pc = .ok (.invokevirtual i, 3)) (hno : M.hh = none) (hv : CVX M.y.cls i X N 0) (ha : h.1 a = some o) (hq : vwCl[o.2.1]? = some q) (hX : q.1 = X) (h8 : (S.map fun v => v.category).sum ≤ 8) (hr : rc ≤ r) (hok : Ok Ω N d rc [.ref a] h (kq Ω M (d + 1) (r - rc) Q (pc + 3) L S)) : At Ω M (d + 1) r Q pc L (.ref a :: S) h := by
  subst hX
  exact R_callVX (As := []) rc hd hno hv ha hq rfl rfl h8 hr hok
theorem R_cF0 {cnt : Nat} {X : String} (rc : Nat) (hd : decode M.code pc = .ok (.invokeinterface i cnt, 5)) (hno : M.hh = none) (hv : CF M.y.cls i X N 0) (ha : h.1 a = some o) (hq : vwCl[o.2.1]? = some q) (hX : q.1 = X) (h8 : (S.map fun v => v.category).sum ≤ 8) (hr : rc ≤ r) (hok : Ok Ω N d rc [.ref a] h (kq Ω M (d + 1) (r - rc) Q (pc + 5) L S)) : At Ω M (d + 1) r Q pc L (.ref a :: S) h := by
  subst hX
  exact R_callF (As := []) rc hd hno hv ha hq rfl rfl h8 hr hok
theorem R_cU0 (rc : Nat) (hd : decode M.code pc = .ok (.invokespecial i, 3)) (hno : M.hh = none) (hv : CU M.y.cls i N 0) (ha : h.1 a = some o) (hq : vwCl[o.2.1]? = some q) (h8 : (S.map fun v => v.category).sum ≤ 8) (hr : rc ≤ r) (hok : Ok Ω N d rc [.ref a] h (kq Ω M (d + 1) (r - rc) Q (pc + 3) L S)) : At Ω M (d + 1) r Q pc L (.ref a :: S) h :=
  R_callU (As := []) rc hd hno hv ha hq rfl rfl h8 hr hok
theorem R_cVH0 {X : String} (rc : Nat) (hd : decode M.code pc = .ok (.invokevirtual i, 3)) (hv : CV M.y.cls i X N 0) (ha : h.1 a = some o) (hq : vwCl[o.2.1]? = some q) (hX : q.1 = X) (h8 : (S.map fun v => v.category).sum ≤ 8) (hr : rc ≤ r) (hok : Ok Ω N d rc [.ref a] h (kqH Ω M (d + 1) (r - rc) Q pc L S)) : At Ω M (d + 1) r Q pc L (.ref a :: S) h := by
  subst hX
  exact R_callVH (As := []) rc hd hv ha hq rfl rfl h8 hr hok
theorem R_cS0 (rc : Nat) (hd : decode M.code pc = .ok (.invokestatic i, 3)) (hno : M.hh = none) (hv : CS M.y.cls i N 0) (h8 : (S.map fun v => v.category).sum ≤ 8) (hr : rc ≤ r) (hok : Ok Ω N d rc [] h (kq Ω M (d + 1) (r - rc) Q (pc + 3) L S)) : At Ω M (d + 1) r Q pc L (S) h :=
  R_callS (As := []) rc hd hno hv rfl rfl h8 hr hok
theorem R_cSX0 (rc : Nat) (hd : decode M.code pc = .ok (.invokestatic i, 3)) (hno : M.hh = none) (hv : CSX M.y.cls i N 0) (h8 : (S.map fun v => v.category).sum ≤ 8) (hr : rc ≤ r) (hok : Ok Ω N d rc [] h (kq Ω M (d + 1) (r - rc) Q (pc + 3) L S)) : At Ω M (d + 1) r Q pc L (S) h :=
  R_callSX (As := []) rc hd hno hv rfl rfl h8 hr hok
theorem R_cI0 (rc : Nat) (hd : decode M.code pc = .ok (.invokespecial i, 3)) (hno : M.hh = none) (hv : CI M.y.cls i N 0) (h8 : (S.map fun v => v.category).sum ≤ 8) (hr : rc ≤ r) (hok : Ok Ω N d rc [.ref a] h (kq Ω M (d + 1) (r - rc) Q (pc + 3) L S)) : At Ω M (d + 1) r Q pc L (.ref a :: S) h :=
  R_callI (As := []) rc hd hno hv rfl rfl h8 hr hok
theorem R_cV1 {v1 : Value} {X : String} (rc : Nat) (hd : decode M.code pc = .ok (.invokevirtual i, 3)) (hno : M.hh = none) (hv : CV M.y.cls i X N 1) (ha : h.1 a = some o) (hq : vwCl[o.2.1]? = some q) (hX : q.1 = X) (h8 : (S.map fun v => v.category).sum ≤ 8) (hr : rc ≤ r) (hok : Ok Ω N d rc [.ref a, v1] h (kq Ω M (d + 1) (r - rc) Q (pc + 3) L S)) : At Ω M (d + 1) r Q pc L (v1 :: .ref a :: S) h := by
  subst hX
  exact R_callV (As := [v1]) rc hd hno hv ha hq rfl rfl h8 hr hok
theorem R_cVX1 {v1 : Value} {X : String} (rc : Nat) (hd : decode M.code pc = .ok (.invokevirtual i, 3)) (hno : M.hh = none) (hv : CVX M.y.cls i X N 1) (ha : h.1 a = some o) (hq : vwCl[o.2.1]? = some q) (hX : q.1 = X) (h8 : (S.map fun v => v.category).sum ≤ 8) (hr : rc ≤ r) (hok : Ok Ω N d rc [.ref a, v1] h (kq Ω M (d + 1) (r - rc) Q (pc + 3) L S)) : At Ω M (d + 1) r Q pc L (v1 :: .ref a :: S) h := by
  subst hX
  exact R_callVX (As := [v1]) rc hd hno hv ha hq rfl rfl h8 hr hok
theorem R_cF1 {cnt : Nat} {v1 : Value} {X : String} (rc : Nat) (hd : decode M.code pc = .ok (.invokeinterface i cnt, 5)) (hno : M.hh = none) (hv : CF M.y.cls i X N 1) (ha : h.1 a = some o) (hq : vwCl[o.2.1]? = some q) (hX : q.1 = X) (h8 : (S.map fun v => v.category).sum ≤ 8) (hr : rc ≤ r) (hok : Ok Ω N d rc [.ref a, v1] h (kq Ω M (d + 1) (r - rc) Q (pc + 5) L S)) : At Ω M (d + 1) r Q pc L (v1 :: .ref a :: S) h := by
  subst hX
  exact R_callF (As := [v1]) rc hd hno hv ha hq rfl rfl h8 hr hok
theorem R_cU1 {v1 : Value} (rc : Nat) (hd : decode M.code pc = .ok (.invokespecial i, 3)) (hno : M.hh = none) (hv : CU M.y.cls i N 1) (ha : h.1 a = some o) (hq : vwCl[o.2.1]? = some q) (h8 : (S.map fun v => v.category).sum ≤ 8) (hr : rc ≤ r) (hok : Ok Ω N d rc [.ref a, v1] h (kq Ω M (d + 1) (r - rc) Q (pc + 3) L S)) : At Ω M (d + 1) r Q pc L (v1 :: .ref a :: S) h :=
  R_callU (As := [v1]) rc hd hno hv ha hq rfl rfl h8 hr hok
theorem R_cVH1 {v1 : Value} {X : String} (rc : Nat) (hd : decode M.code pc = .ok (.invokevirtual i, 3)) (hv : CV M.y.cls i X N 1) (ha : h.1 a = some o) (hq : vwCl[o.2.1]? = some q) (hX : q.1 = X) (h8 : (S.map fun v => v.category).sum ≤ 8) (hr : rc ≤ r) (hok : Ok Ω N d rc [.ref a, v1] h (kqH Ω M (d + 1) (r - rc) Q pc L S)) : At Ω M (d + 1) r Q pc L (v1 :: .ref a :: S) h := by
  subst hX
  exact R_callVH (As := [v1]) rc hd hv ha hq rfl rfl h8 hr hok
theorem R_cS1 {v1 : Value} (rc : Nat) (hd : decode M.code pc = .ok (.invokestatic i, 3)) (hno : M.hh = none) (hv : CS M.y.cls i N 1) (h8 : (S.map fun v => v.category).sum ≤ 8) (hr : rc ≤ r) (hok : Ok Ω N d rc [v1] h (kq Ω M (d + 1) (r - rc) Q (pc + 3) L S)) : At Ω M (d + 1) r Q pc L (v1 :: S) h :=
  R_callS (As := [v1]) rc hd hno hv rfl rfl h8 hr hok
theorem R_cSX1 {v1 : Value} (rc : Nat) (hd : decode M.code pc = .ok (.invokestatic i, 3)) (hno : M.hh = none) (hv : CSX M.y.cls i N 1) (h8 : (S.map fun v => v.category).sum ≤ 8) (hr : rc ≤ r) (hok : Ok Ω N d rc [v1] h (kq Ω M (d + 1) (r - rc) Q (pc + 3) L S)) : At Ω M (d + 1) r Q pc L (v1 :: S) h :=
  R_callSX (As := [v1]) rc hd hno hv rfl rfl h8 hr hok
theorem R_cI1 {v1 : Value} (rc : Nat) (hd : decode M.code pc = .ok (.invokespecial i, 3)) (hno : M.hh = none) (hv : CI M.y.cls i N 1) (h8 : (S.map fun v => v.category).sum ≤ 8) (hr : rc ≤ r) (hok : Ok Ω N d rc [.ref a, v1] h (kq Ω M (d + 1) (r - rc) Q (pc + 3) L S)) : At Ω M (d + 1) r Q pc L (v1 :: .ref a :: S) h :=
  R_callI (As := [v1]) rc hd hno hv rfl rfl h8 hr hok
theorem R_cV2 {v1 v2 : Value} {X : String} (rc : Nat) (hd : decode M.code pc = .ok (.invokevirtual i, 3)) (hno : M.hh = none) (hv : CV M.y.cls i X N 2) (ha : h.1 a = some o) (hq : vwCl[o.2.1]? = some q) (hX : q.1 = X) (h8 : (S.map fun v => v.category).sum ≤ 8) (hr : rc ≤ r) (hok : Ok Ω N d rc [.ref a, v1, v2] h (kq Ω M (d + 1) (r - rc) Q (pc + 3) L S)) : At Ω M (d + 1) r Q pc L (v2 :: v1 :: .ref a :: S) h := by
  subst hX
  exact R_callV (As := [v1, v2]) rc hd hno hv ha hq rfl rfl h8 hr hok
theorem R_cVX2 {v1 v2 : Value} {X : String} (rc : Nat) (hd : decode M.code pc = .ok (.invokevirtual i, 3)) (hno : M.hh = none) (hv : CVX M.y.cls i X N 2) (ha : h.1 a = some o) (hq : vwCl[o.2.1]? = some q) (hX : q.1 = X) (h8 : (S.map fun v => v.category).sum ≤ 8) (hr : rc ≤ r) (hok : Ok Ω N d rc [.ref a, v1, v2] h (kq Ω M (d + 1) (r - rc) Q (pc + 3) L S)) : At Ω M (d + 1) r Q pc L (v2 :: v1 :: .ref a :: S) h := by
  subst hX
  exact R_callVX (As := [v1, v2]) rc hd hno hv ha hq rfl rfl h8 hr hok
theorem R_cF2 {cnt : Nat} {v1 v2 : Value} {X : String} (rc : Nat) (hd : decode M.code pc = .ok (.invokeinterface i cnt, 5)) (hno : M.hh = none) (hv : CF M.y.cls i X N 2) (ha : h.1 a = some o) (hq : vwCl[o.2.1]? = some q) (hX : q.1 = X) (h8 : (S.map fun v => v.category).sum ≤ 8) (hr : rc ≤ r) (hok : Ok Ω N d rc [.ref a, v1, v2] h (kq Ω M (d + 1) (r - rc) Q (pc + 5) L S)) : At Ω M (d + 1) r Q pc L (v2 :: v1 :: .ref a :: S) h := by
  subst hX
  exact R_callF (As := [v1, v2]) rc hd hno hv ha hq rfl rfl h8 hr hok
theorem R_cU2 {v1 v2 : Value} (rc : Nat) (hd : decode M.code pc = .ok (.invokespecial i, 3)) (hno : M.hh = none) (hv : CU M.y.cls i N 2) (ha : h.1 a = some o) (hq : vwCl[o.2.1]? = some q) (h8 : (S.map fun v => v.category).sum ≤ 8) (hr : rc ≤ r) (hok : Ok Ω N d rc [.ref a, v1, v2] h (kq Ω M (d + 1) (r - rc) Q (pc + 3) L S)) : At Ω M (d + 1) r Q pc L (v2 :: v1 :: .ref a :: S) h :=
  R_callU (As := [v1, v2]) rc hd hno hv ha hq rfl rfl h8 hr hok
theorem R_cVH2 {v1 v2 : Value} {X : String} (rc : Nat) (hd : decode M.code pc = .ok (.invokevirtual i, 3)) (hv : CV M.y.cls i X N 2) (ha : h.1 a = some o) (hq : vwCl[o.2.1]? = some q) (hX : q.1 = X) (h8 : (S.map fun v => v.category).sum ≤ 8) (hr : rc ≤ r) (hok : Ok Ω N d rc [.ref a, v1, v2] h (kqH Ω M (d + 1) (r - rc) Q pc L S)) : At Ω M (d + 1) r Q pc L (v2 :: v1 :: .ref a :: S) h := by
  subst hX
  exact R_callVH (As := [v1, v2]) rc hd hv ha hq rfl rfl h8 hr hok
theorem R_cS2 {v1 v2 : Value} (rc : Nat) (hd : decode M.code pc = .ok (.invokestatic i, 3)) (hno : M.hh = none) (hv : CS M.y.cls i N 2) (h8 : (S.map fun v => v.category).sum ≤ 8) (hr : rc ≤ r) (hok : Ok Ω N d rc [v1, v2] h (kq Ω M (d + 1) (r - rc) Q (pc + 3) L S)) : At Ω M (d + 1) r Q pc L (v2 :: v1 :: S) h :=
  R_callS (As := [v1, v2]) rc hd hno hv rfl rfl h8 hr hok
theorem R_cSX2 {v1 v2 : Value} (rc : Nat) (hd : decode M.code pc = .ok (.invokestatic i, 3)) (hno : M.hh = none) (hv : CSX M.y.cls i N 2) (h8 : (S.map fun v => v.category).sum ≤ 8) (hr : rc ≤ r) (hok : Ok Ω N d rc [v1, v2] h (kq Ω M (d + 1) (r - rc) Q (pc + 3) L S)) : At Ω M (d + 1) r Q pc L (v2 :: v1 :: S) h :=
  R_callSX (As := [v1, v2]) rc hd hno hv rfl rfl h8 hr hok
theorem R_cI2 {v1 v2 : Value} (rc : Nat) (hd : decode M.code pc = .ok (.invokespecial i, 3)) (hno : M.hh = none) (hv : CI M.y.cls i N 2) (h8 : (S.map fun v => v.category).sum ≤ 8) (hr : rc ≤ r) (hok : Ok Ω N d rc [.ref a, v1, v2] h (kq Ω M (d + 1) (r - rc) Q (pc + 3) L S)) : At Ω M (d + 1) r Q pc L (v2 :: v1 :: .ref a :: S) h :=
  R_callI (As := [v1, v2]) rc hd hno hv rfl rfl h8 hr hok
theorem R_cV3 {v1 v2 v3 : Value} {X : String} (rc : Nat) (hd : decode M.code pc = .ok (.invokevirtual i, 3)) (hno : M.hh = none) (hv : CV M.y.cls i X N 3) (ha : h.1 a = some o) (hq : vwCl[o.2.1]? = some q) (hX : q.1 = X) (h8 : (S.map fun v => v.category).sum ≤ 8) (hr : rc ≤ r) (hok : Ok Ω N d rc [.ref a, v1, v2, v3] h (kq Ω M (d + 1) (r - rc) Q (pc + 3) L S)) : At Ω M (d + 1) r Q pc L (v3 :: v2 :: v1 :: .ref a :: S) h := by
  subst hX
  exact R_callV (As := [v1, v2, v3]) rc hd hno hv ha hq rfl rfl h8 hr hok
theorem R_cVX3 {v1 v2 v3 : Value} {X : String} (rc : Nat) (hd : decode M.code pc = .ok (.invokevirtual i, 3)) (hno : M.hh = none) (hv : CVX M.y.cls i X N 3) (ha : h.1 a = some o) (hq : vwCl[o.2.1]? = some q) (hX : q.1 = X) (h8 : (S.map fun v => v.category).sum ≤ 8) (hr : rc ≤ r) (hok : Ok Ω N d rc [.ref a, v1, v2, v3] h (kq Ω M (d + 1) (r - rc) Q (pc + 3) L S)) : At Ω M (d + 1) r Q pc L (v3 :: v2 :: v1 :: .ref a :: S) h := by
  subst hX
  exact R_callVX (As := [v1, v2, v3]) rc hd hno hv ha hq rfl rfl h8 hr hok
theorem R_cF3 {cnt : Nat} {v1 v2 v3 : Value} {X : String} (rc : Nat) (hd : decode M.code pc = .ok (.invokeinterface i cnt, 5)) (hno : M.hh = none) (hv : CF M.y.cls i X N 3) (ha : h.1 a = some o) (hq : vwCl[o.2.1]? = some q) (hX : q.1 = X) (h8 : (S.map fun v => v.category).sum ≤ 8) (hr : rc ≤ r) (hok : Ok Ω N d rc [.ref a, v1, v2, v3] h (kq Ω M (d + 1) (r - rc) Q (pc + 5) L S)) : At Ω M (d + 1) r Q pc L (v3 :: v2 :: v1 :: .ref a :: S) h := by
  subst hX
  exact R_callF (As := [v1, v2, v3]) rc hd hno hv ha hq rfl rfl h8 hr hok
theorem R_cU3 {v1 v2 v3 : Value} (rc : Nat) (hd : decode M.code pc = .ok (.invokespecial i, 3)) (hno : M.hh = none) (hv : CU M.y.cls i N 3) (ha : h.1 a = some o) (hq : vwCl[o.2.1]? = some q) (h8 : (S.map fun v => v.category).sum ≤ 8) (hr : rc ≤ r) (hok : Ok Ω N d rc [.ref a, v1, v2, v3] h (kq Ω M (d + 1) (r - rc) Q (pc + 3) L S)) : At Ω M (d + 1) r Q pc L (v3 :: v2 :: v1 :: .ref a :: S) h :=
  R_callU (As := [v1, v2, v3]) rc hd hno hv ha hq rfl rfl h8 hr hok
theorem R_cVH3 {v1 v2 v3 : Value} {X : String} (rc : Nat) (hd : decode M.code pc = .ok (.invokevirtual i, 3)) (hv : CV M.y.cls i X N 3) (ha : h.1 a = some o) (hq : vwCl[o.2.1]? = some q) (hX : q.1 = X) (h8 : (S.map fun v => v.category).sum ≤ 8) (hr : rc ≤ r) (hok : Ok Ω N d rc [.ref a, v1, v2, v3] h (kqH Ω M (d + 1) (r - rc) Q pc L S)) : At Ω M (d + 1) r Q pc L (v3 :: v2 :: v1 :: .ref a :: S) h := by
  subst hX
  exact R_callVH (As := [v1, v2, v3]) rc hd hv ha hq rfl rfl h8 hr hok
theorem R_cS3 {v1 v2 v3 : Value} (rc : Nat) (hd : decode M.code pc = .ok (.invokestatic i, 3)) (hno : M.hh = none) (hv : CS M.y.cls i N 3) (h8 : (S.map fun v => v.category).sum ≤ 8) (hr : rc ≤ r) (hok : Ok Ω N d rc [v1, v2, v3] h (kq Ω M (d + 1) (r - rc) Q (pc + 3) L S)) : At Ω M (d + 1) r Q pc L (v3 :: v2 :: v1 :: S) h :=
  R_callS (As := [v1, v2, v3]) rc hd hno hv rfl rfl h8 hr hok
theorem R_cSX3 {v1 v2 v3 : Value} (rc : Nat) (hd : decode M.code pc = .ok (.invokestatic i, 3)) (hno : M.hh = none) (hv : CSX M.y.cls i N 3) (h8 : (S.map fun v => v.category).sum ≤ 8) (hr : rc ≤ r) (hok : Ok Ω N d rc [v1, v2, v3] h (kq Ω M (d + 1) (r - rc) Q (pc + 3) L S)) : At Ω M (d + 1) r Q pc L (v3 :: v2 :: v1 :: S) h :=
  R_callSX (As := [v1, v2, v3]) rc hd hno hv rfl rfl h8 hr hok
theorem R_cI3 {v1 v2 v3 : Value} (rc : Nat) (hd : decode M.code pc = .ok (.invokespecial i, 3)) (hno : M.hh = none) (hv : CI M.y.cls i N 3) (h8 : (S.map fun v => v.category).sum ≤ 8) (hr : rc ≤ r) (hok : Ok Ω N d rc [.ref a, v1, v2, v3] h (kq Ω M (d + 1) (r - rc) Q (pc + 3) L S)) : At Ω M (d + 1) r Q pc L (v3 :: v2 :: v1 :: .ref a :: S) h :=
  R_callI (As := [v1, v2, v3]) rc hd hno hv rfl rfl h8 hr hok
theorem R_cV4 {v1 v2 v3 v4 : Value} {X : String} (rc : Nat) (hd : decode M.code pc = .ok (.invokevirtual i, 3)) (hno : M.hh = none) (hv : CV M.y.cls i X N 4) (ha : h.1 a = some o) (hq : vwCl[o.2.1]? = some q) (hX : q.1 = X) (h8 : (S.map fun v => v.category).sum ≤ 8) (hr : rc ≤ r) (hok : Ok Ω N d rc [.ref a, v1, v2, v3, v4] h (kq Ω M (d + 1) (r - rc) Q (pc + 3) L S)) : At Ω M (d + 1) r Q pc L (v4 :: v3 :: v2 :: v1 :: .ref a :: S) h := by
  subst hX
  exact R_callV (As := [v1, v2, v3, v4]) rc hd hno hv ha hq rfl rfl h8 hr hok
theorem R_cVX4 {v1 v2 v3 v4 : Value} {X : String} (rc : Nat) (hd : decode M.code pc = .ok (.invokevirtual i, 3)) (hno : M.hh = none) (hv : CVX M.y.cls i X N 4) (ha : h.1 a = some o) (hq : vwCl[o.2.1]? = some q) (hX : q.1 = X) (h8 : (S.map fun v => v.category).sum ≤ 8) (hr : rc ≤ r) (hok : Ok Ω N d rc [.ref a, v1, v2, v3, v4] h (kq Ω M (d + 1) (r - rc) Q (pc + 3) L S)) : At Ω M (d + 1) r Q pc L (v4 :: v3 :: v2 :: v1 :: .ref a :: S) h := by
  subst hX
  exact R_callVX (As := [v1, v2, v3, v4]) rc hd hno hv ha hq rfl rfl h8 hr hok
theorem R_cVH4 {v1 v2 v3 v4 : Value} {X : String} (rc : Nat) (hd : decode M.code pc = .ok (.invokevirtual i, 3)) (hv : CV M.y.cls i X N 4) (ha : h.1 a = some o) (hq : vwCl[o.2.1]? = some q) (hX : q.1 = X) (h8 : (S.map fun v => v.category).sum ≤ 8) (hr : rc ≤ r) (hok : Ok Ω N d rc [.ref a, v1, v2, v3, v4] h (kqH Ω M (d + 1) (r - rc) Q pc L S)) : At Ω M (d + 1) r Q pc L (v4 :: v3 :: v2 :: v1 :: .ref a :: S) h := by
  subst hX
  exact R_callVH (As := [v1, v2, v3, v4]) rc hd hv ha hq rfl rfl h8 hr hok
theorem R_cS4 {v1 v2 v3 v4 : Value} (rc : Nat) (hd : decode M.code pc = .ok (.invokestatic i, 3)) (hno : M.hh = none) (hv : CS M.y.cls i N 4) (h8 : (S.map fun v => v.category).sum ≤ 8) (hr : rc ≤ r) (hok : Ok Ω N d rc [v1, v2, v3, v4] h (kq Ω M (d + 1) (r - rc) Q (pc + 3) L S)) : At Ω M (d + 1) r Q pc L (v4 :: v3 :: v2 :: v1 :: S) h :=
  R_callS (As := [v1, v2, v3, v4]) rc hd hno hv rfl rfl h8 hr hok
theorem R_cSX4 {v1 v2 v3 v4 : Value} (rc : Nat) (hd : decode M.code pc = .ok (.invokestatic i, 3)) (hno : M.hh = none) (hv : CSX M.y.cls i N 4) (h8 : (S.map fun v => v.category).sum ≤ 8) (hr : rc ≤ r) (hok : Ok Ω N d rc [v1, v2, v3, v4] h (kq Ω M (d + 1) (r - rc) Q (pc + 3) L S)) : At Ω M (d + 1) r Q pc L (v4 :: v3 :: v2 :: v1 :: S) h :=
  R_callSX (As := [v1, v2, v3, v4]) rc hd hno hv rfl rfl h8 hr hok
theorem R_cI4 {v1 v2 v3 v4 : Value} (rc : Nat) (hd : decode M.code pc = .ok (.invokespecial i, 3)) (hno : M.hh = none) (hv : CI M.y.cls i N 4) (h8 : (S.map fun v => v.category).sum ≤ 8) (hr : rc ≤ r) (hok : Ok Ω N d rc [.ref a, v1, v2, v3, v4] h (kq Ω M (d + 1) (r - rc) Q (pc + 3) L S)) : At Ω M (d + 1) r Q pc L (v4 :: v3 :: v2 :: v1 :: .ref a :: S) h :=
  R_callI (As := [v1, v2, v3, v4]) rc hd hno hv rfl rfl h8 hr hok
theorem R_cV5 {v1 v2 v3 v4 v5 : Value} {X : String} (rc : Nat) (hd : decode M.code pc = .ok (.invokevirtual i, 3)) (hno : M.hh = none) (hv : CV M.y.cls i X N 5) (ha : h.1 a = some o) (hq : vwCl[o.2.1]? = some q) (hX : q.1 = X) (h8 : (S.map fun v => v.category).sum ≤ 8) (hr : rc ≤ r) (hok : Ok Ω N d rc [.ref a, v1, v2, v3, v4, v5] h (kq Ω M (d + 1) (r - rc) Q (pc + 3) L S)) : At Ω M (d + 1) r Q pc L (v5 :: v4 :: v3 :: v2 :: v1 :: .ref a :: S) h := by
  subst hX
  exact R_callV (As := [v1, v2, v3, v4, v5]) rc hd hno hv ha hq rfl rfl h8 hr hok
theorem R_cVX5 {v1 v2 v3 v4 v5 : Value} {X : String} (rc : Nat) (hd : decode M.code pc = .ok (.invokevirtual i, 3)) (hno : M.hh = none) (hv : CVX M.y.cls i X N 5) (ha : h.1 a = some o) (hq : vwCl[o.2.1]? = some q) (hX : q.1 = X) (h8 : (S.map fun v => v.category).sum ≤ 8) (hr : rc ≤ r) (hok : Ok Ω N d rc [.ref a, v1, v2, v3, v4, v5] h (kq Ω M (d + 1) (r - rc) Q (pc + 3) L S)) : At Ω M (d + 1) r Q pc L (v5 :: v4 :: v3 :: v2 :: v1 :: .ref a :: S) h := by
  subst hX
  exact R_callVX (As := [v1, v2, v3, v4, v5]) rc hd hno hv ha hq rfl rfl h8 hr hok
theorem R_cVH5 {v1 v2 v3 v4 v5 : Value} {X : String} (rc : Nat) (hd : decode M.code pc = .ok (.invokevirtual i, 3)) (hv : CV M.y.cls i X N 5) (ha : h.1 a = some o) (hq : vwCl[o.2.1]? = some q) (hX : q.1 = X) (h8 : (S.map fun v => v.category).sum ≤ 8) (hr : rc ≤ r) (hok : Ok Ω N d rc [.ref a, v1, v2, v3, v4, v5] h (kqH Ω M (d + 1) (r - rc) Q pc L S)) : At Ω M (d + 1) r Q pc L (v5 :: v4 :: v3 :: v2 :: v1 :: .ref a :: S) h := by
  subst hX
  exact R_callVH (As := [v1, v2, v3, v4, v5]) rc hd hv ha hq rfl rfl h8 hr hok
theorem R_cS5 {v1 v2 v3 v4 v5 : Value} (rc : Nat) (hd : decode M.code pc = .ok (.invokestatic i, 3)) (hno : M.hh = none) (hv : CS M.y.cls i N 5) (h8 : (S.map fun v => v.category).sum ≤ 8) (hr : rc ≤ r) (hok : Ok Ω N d rc [v1, v2, v3, v4, v5] h (kq Ω M (d + 1) (r - rc) Q (pc + 3) L S)) : At Ω M (d + 1) r Q pc L (v5 :: v4 :: v3 :: v2 :: v1 :: S) h :=
  R_callS (As := [v1, v2, v3, v4, v5]) rc hd hno hv rfl rfl h8 hr hok
theorem R_cSX5 {v1 v2 v3 v4 v5 : Value} (rc : Nat) (hd : decode M.code pc = .ok (.invokestatic i, 3)) (hno : M.hh = none) (hv : CSX M.y.cls i N 5) (h8 : (S.map fun v => v.category).sum ≤ 8) (hr : rc ≤ r) (hok : Ok Ω N d rc [v1, v2, v3, v4, v5] h (kq Ω M (d + 1) (r - rc) Q (pc + 3) L S)) : At Ω M (d + 1) r Q pc L (v5 :: v4 :: v3 :: v2 :: v1 :: S) h :=
  R_callSX (As := [v1, v2, v3, v4, v5]) rc hd hno hv rfl rfl h8 hr hok
theorem R_cI5 {v1 v2 v3 v4 v5 : Value} (rc : Nat) (hd : decode M.code pc = .ok (.invokespecial i, 3)) (hno : M.hh = none) (hv : CI M.y.cls i N 5) (h8 : (S.map fun v => v.category).sum ≤ 8) (hr : rc ≤ r) (hok : Ok Ω N d rc [.ref a, v1, v2, v3, v4, v5] h (kq Ω M (d + 1) (r - rc) Q (pc + 3) L S)) : At Ω M (d + 1) r Q pc L (v5 :: v4 :: v3 :: v2 :: v1 :: .ref a :: S) h :=
  R_callI (As := [v1, v2, v3, v4, v5]) rc hd hno hv rfl rfl h8 hr hok
theorem R_cV6 {v1 v2 v3 v4 v5 v6 : Value} {X : String} (rc : Nat) (hd : decode M.code pc = .ok (.invokevirtual i, 3)) (hno : M.hh = none) (hv : CV M.y.cls i X N 6) (ha : h.1 a = some o) (hq : vwCl[o.2.1]? = some q) (hX : q.1 = X) (h8 : (S.map fun v => v.category).sum ≤ 8) (hr : rc ≤ r) (hok : Ok Ω N d rc [.ref a, v1, v2, v3, v4, v5, v6] h (kq Ω M (d + 1) (r - rc) Q (pc + 3) L S)) : At Ω M (d + 1) r Q pc L (v6 :: v5 :: v4 :: v3 :: v2 :: v1 :: .ref a :: S) h := by
  subst hX
  exact R_callV (As := [v1, v2, v3, v4, v5, v6]) rc hd hno hv ha hq rfl rfl h8 hr hok
theorem R_cVX6 {v1 v2 v3 v4 v5 v6 : Value} {X : String} (rc : Nat) (hd : decode M.code pc = .ok (.invokevirtual i, 3)) (hno : M.hh = none) (hv : CVX M.y.cls i X N 6) (ha : h.1 a = some o) (hq : vwCl[o.2.1]? = some q) (hX : q.1 = X) (h8 : (S.map fun v => v.category).sum ≤ 8) (hr : rc ≤ r) (hok : Ok Ω N d rc [.ref a, v1, v2, v3, v4, v5, v6] h (kq Ω M (d + 1) (r - rc) Q (pc + 3) L S)) : At Ω M (d + 1) r Q pc L (v6 :: v5 :: v4 :: v3 :: v2 :: v1 :: .ref a :: S) h := by
  subst hX
  exact R_callVX (As := [v1, v2, v3, v4, v5, v6]) rc hd hno hv ha hq rfl rfl h8 hr hok
theorem R_cVH6 {v1 v2 v3 v4 v5 v6 : Value} {X : String} (rc : Nat) (hd : decode M.code pc = .ok (.invokevirtual i, 3)) (hv : CV M.y.cls i X N 6) (ha : h.1 a = some o) (hq : vwCl[o.2.1]? = some q) (hX : q.1 = X) (h8 : (S.map fun v => v.category).sum ≤ 8) (hr : rc ≤ r) (hok : Ok Ω N d rc [.ref a, v1, v2, v3, v4, v5, v6] h (kqH Ω M (d + 1) (r - rc) Q pc L S)) : At Ω M (d + 1) r Q pc L (v6 :: v5 :: v4 :: v3 :: v2 :: v1 :: .ref a :: S) h := by
  subst hX
  exact R_callVH (As := [v1, v2, v3, v4, v5, v6]) rc hd hv ha hq rfl rfl h8 hr hok
theorem R_cS6 {v1 v2 v3 v4 v5 v6 : Value} (rc : Nat) (hd : decode M.code pc = .ok (.invokestatic i, 3)) (hno : M.hh = none) (hv : CS M.y.cls i N 6) (h8 : (S.map fun v => v.category).sum ≤ 8) (hr : rc ≤ r) (hok : Ok Ω N d rc [v1, v2, v3, v4, v5, v6] h (kq Ω M (d + 1) (r - rc) Q (pc + 3) L S)) : At Ω M (d + 1) r Q pc L (v6 :: v5 :: v4 :: v3 :: v2 :: v1 :: S) h :=
  R_callS (As := [v1, v2, v3, v4, v5, v6]) rc hd hno hv rfl rfl h8 hr hok
theorem R_cSX6 {v1 v2 v3 v4 v5 v6 : Value} (rc : Nat) (hd : decode M.code pc = .ok (.invokestatic i, 3)) (hno : M.hh = none) (hv : CSX M.y.cls i N 6) (h8 : (S.map fun v => v.category).sum ≤ 8) (hr : rc ≤ r) (hok : Ok Ω N d rc [v1, v2, v3, v4, v5, v6] h (kq Ω M (d + 1) (r - rc) Q (pc + 3) L S)) : At Ω M (d + 1) r Q pc L (v6 :: v5 :: v4 :: v3 :: v2 :: v1 :: S) h :=
  R_callSX (As := [v1, v2, v3, v4, v5, v6]) rc hd hno hv rfl rfl h8 hr hok
theorem R_cI6 {v1 v2 v3 v4 v5 v6 : Value} (rc : Nat) (hd : decode M.code pc = .ok (.invokespecial i, 3)) (hno : M.hh = none) (hv : CI M.y.cls i N 6) (h8 : (S.map fun v => v.category).sum ≤ 8) (hr : rc ≤ r) (hok : Ok Ω N d rc [.ref a, v1, v2, v3, v4, v5, v6] h (kq Ω M (d + 1) (r - rc) Q (pc + 3) L S)) : At Ω M (d + 1) r Q pc L (v6 :: v5 :: v4 :: v3 :: v2 :: v1 :: .ref a :: S) h :=
  R_callI (As := [v1, v2, v3, v4, v5, v6]) rc hd hno hv rfl rfl h8 hr hok
end
