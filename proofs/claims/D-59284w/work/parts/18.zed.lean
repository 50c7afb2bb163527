/-! rules over whole numbers; the model's heap (printed by tools/mkzed.py) -/
set_option maxRecDepth 100000
abbrev zI (z : Int) : Int32 := Int32.ofInt z
abbrev zL (z : Int) : Int64 := Int64.ofInt z
abbrev rg (z : Int) : Prop := -2147483648 ≤ z ∧ z ≤ 2147483647
noncomputable def b2i (p : Prop) : Int := @ite _ p (Classical.propDecidable p) 1 0
theorem b2i_1 {p : Prop} (h : p) : b2i p = 1 := if_pos h
theorem b2i_0 {p : Prop} (h : ¬ p) : b2i p = 0 := if_neg h
theorem b2i_rg (p : Prop) : 0 ≤ b2i p ∧ b2i p ≤ 1 := by
  by_cases h : p
  · rw [b2i_1 h]; decide
  · rw [b2i_0 h]; decide
theorem b2i_e0 {p : Prop} : b2i p = 0 ↔ ¬ p := ⟨fun e h => (by rw [b2i_1 h] at e; cases e), b2i_0⟩
theorem b2i_e1 {p : Prop} : b2i p = 1 ↔ p := ⟨fun e => Classical.byContradiction fun h => (by rw [b2i_0 h] at e; cases e), b2i_1⟩
theorem b2i_iff {p q : Prop} (h : p ↔ q) : b2i p = b2i q := by rw [propext h]
noncomputable def pif (p : Prop) (a b : Int) : Int := @ite _ p (Classical.propDecidable p) a b
theorem pif_1 {p : Prop} {a b : Int} (h : p) : pif p a b = a := if_pos h
theorem pif_0 {p : Prop} {a b : Int} (h : ¬ p) : pif p a b = b := if_neg h
theorem pif_iff {p q : Prop} {a b : Int} (h : p ↔ q) : pif p a b = pif q a b := by rw [propext h]
/-- a value that isn't looked into -/
theorem hide_ex {α : Type} (x : α) : ∃ y : α, y = x := ⟨x, rfl⟩
noncomputable def hide {α : Type} (x : α) : α := Classical.choose (hide_ex x)
theorem hide_eq {α : Type} (x : α) : hide x = x := Classical.choose_spec (hide_ex x)
theorem zI_add (a b : Int) : zI a + zI b = zI (a + b) := (Int32.ofInt_add ..).symm
theorem zI_sub (a b : Int) : zI a - zI b = zI (a - b) := (Int32.ofInt_sub ..).symm
theorem zI_mul (a b : Int) : zI a * zI b = zI (a * b) := (Int32.ofInt_mul ..).symm
theorem zI_neg (a : Int) : -zI a = zI (-a) := (Int32.ofInt_neg ..).symm
theorem zL_add (a b : Int) : zL a + zL b = zL (a + b) := (Int64.ofInt_add ..).symm
theorem zL_mul (a b : Int) : zL a * zL b = zL (a * b) := (Int64.ofInt_mul ..).symm
theorem zI_toInt {z : Int} (h : rg z) : (zI z).toInt = z := Int32.toInt_ofInt_of_le (by have := h.1; simpa using this) (by have := h.2; omega)
theorem zI_of (x : Int32) : zI x.toInt = x := Int32.ofInt_toInt x
theorem rg_of (x : Int32) : rg x.toInt := ⟨by have := Int32.le_toInt x; simpa using this, by have := Int32.toInt_lt x; omega⟩
theorem zI_eq {a b : Int} (ha : rg a) (hb : rg b) : zI a = zI b ↔ a = b := ⟨fun h => by rw [← zI_toInt ha, ← zI_toInt hb, h], fun h => h ▸ rfl⟩
theorem zI_lt {a b : Int} (ha : rg a) (hb : rg b) : zI a < zI b ↔ a < b := by rw [Int32.lt_iff_toInt_lt, zI_toInt ha, zI_toInt hb]
theorem zI_le {a b : Int} (ha : rg a) (hb : rg b) : zI a ≤ zI b ↔ a ≤ b := by rw [Int32.le_iff_toInt_le, zI_toInt ha, zI_toInt hb]
theorem zI_nI (n : Nat) : nI n = zI (n : Int) := (Int32.ofInt_eq_ofNat).symm
theorem zI_nI' {i : Int} (h : 0 ≤ i) : zI i = nI i.toNat := by rw [zI_nI, Int.toNat_of_nonneg h]
theorem zI_long {a : Int} (h : rg a) : (zI a).toInt64 = zL a := by
  apply Int64.toInt_inj.mp
  rw [Int32.toInt_toInt64, zI_toInt h]
  exact (Int64.toInt_ofInt_of_le (by have := h.1; simp; omega) (by have := h.2; simp; omega)).symm
theorem rfb {p : Prop} {ret : Option FieldType} (h : ret = some .boolean) : rFit ret (some (.int (zI (b2i p)))) := by
  by_cases hp : p
  · rw [b2i_1 hp]; exact ⟨_, h, by decide⟩
  · rw [b2i_0 hp]; exact ⟨_, h, by decide⟩
theorem rf01 {z : Int} {ret : Option FieldType} (h : ret = some .boolean) (hz : 0 ≤ z ∧ z ≤ 1) : rFit ret (some (.int (zI z))) := by
  rcases (by omega : z = 0 ∨ z = 1) with e | e <;> subst e <;> exact ⟨_, h, by decide⟩
section
variable {Ω : Wd} {M : MD} {d r : Nat} {Q : Hp → Out → Prop} {pc : Nat} {L : List (Option Value)} {S : List Value} {h : Hp}

theorem Z_iadd {a b : Int} (hd : decode M.code pc = .ok (.iadd, 1)) (k : At Ω M d r Q (pc + 1) L (.int (zI (a + b)) :: S) h) : At Ω M d r Q pc L (.int (zI b) :: .int (zI a) :: S) h :=
  R_iadd hd (by rw [zI_add]; exact k)
theorem Z_isub {a b : Int} (hd : decode M.code pc = .ok (.isub, 1)) (k : At Ω M d r Q (pc + 1) L (.int (zI (a - b)) :: S) h) : At Ω M d r Q pc L (.int (zI b) :: .int (zI a) :: S) h :=
  R_isub hd (by rw [zI_sub]; exact k)
theorem Z_imul {a b : Int} (hd : decode M.code pc = .ok (.imul, 1)) (k : At Ω M d r Q (pc + 1) L (.int (zI (a * b)) :: S) h) : At Ω M d r Q pc L (.int (zI b) :: .int (zI a) :: S) h :=
  R_imul hd (by rw [zI_mul]; exact k)
theorem Z_ineg {a : Int} (hd : decode M.code pc = .ok (.ineg, 1)) (k : At Ω M d r Q (pc + 1) L (.int (zI (-a)) :: S) h) : At Ω M d r Q pc L (.int (zI a) :: S) h :=
  R_ineg hd (by rw [zI_neg]; exact k)
theorem Z_ladd {a b : Int} (hd : decode M.code pc = .ok (.ladd, 1)) (k : At Ω M d r Q (pc + 1) L (.long (zL (a + b)) :: S) h) : At Ω M d r Q pc L (.long (zL b) :: .long (zL a) :: S) h :=
  R_ladd hd (by rw [zL_add]; exact k)
theorem Z_lmul {a b : Int} (hd : decode M.code pc = .ok (.lmul, 1)) (k : At Ω M d r Q (pc + 1) L (.long (zL (a * b)) :: S) h) : At Ω M d r Q pc L (.long (zL b) :: .long (zL a) :: S) h :=
  R_lmul hd (by rw [zL_mul]; exact k)
theorem Z_i2l {a : Int} (hd : decode M.code pc = .ok (.i2l, 1)) (ha : rg a) (k : At Ω M d r Q (pc + 1) L (.long (zL a) :: S) h) : At Ω M d r Q pc L (.int (zI a) :: S) h :=
  R_i2l hd (by rw [zI_long ha]; exact k)
theorem Z_iinc {L2 : List (Option Value)} {i : Nat} {n a : Int} (hd : decode M.code pc = .ok (.iinc i n, 3)) (hx : L[i]? = some (some (.int (zI a)))) (hn : i < M.maxL) (hk : okSt L i = true) (he : L.set i (some (.int (zI (a + n)))) = L2) (k : At Ω M d r Q (pc + 3) L2 S h) : At Ω M d r Q pc L S h :=
  R_iinc hd hx (zI_add a n) hn hk he k
theorem Z_icmp_eq {a b : Int} {off : Int} {tgt : Nat} (hd : decode M.code pc = .ok (.if_icmp .eq off, 3)) (ha : rg a) (hb : rg b) (ht : (pc : Int) + off = (tgt : Int)) (kt : a = b → At Ω M d r Q tgt L S h) (kf : ¬ a = b → At Ω M d r Q (pc + 3) L S h) : At Ω M d r Q pc L (.int (zI b) :: .int (zI a) :: S) h :=
  R_icmp_eq hd ht (fun q => kt ((zI_eq ha hb).mp q)) (fun q => kf (fun e => q ((zI_eq ha hb).mpr e)))
theorem Z_if_eq {a : Int} {off : Int} {tgt : Nat} (hd : decode M.code pc = .ok (.ifCond .eq off, 3)) (ha : rg a) (ht : (pc : Int) + off = (tgt : Int)) (kt : a = 0 → At Ω M d r Q tgt L S h) (kf : ¬ a = 0 → At Ω M d r Q (pc + 3) L S h) : At Ω M d r Q pc L (.int (zI a) :: S) h :=
  have hb : rg 0 := by decide
  R_if_eq hd ht (fun q => kt ((zI_eq ha hb).mp q)) (fun q => kf (fun e => q ((zI_eq ha hb).mpr e)))
theorem Z_icmp_ne {a b : Int} {off : Int} {tgt : Nat} (hd : decode M.code pc = .ok (.if_icmp .ne off, 3)) (ha : rg a) (hb : rg b) (ht : (pc : Int) + off = (tgt : Int)) (kt : ¬ a = b → At Ω M d r Q tgt L S h) (kf : a = b → At Ω M d r Q (pc + 3) L S h) : At Ω M d r Q pc L (.int (zI b) :: .int (zI a) :: S) h :=
  R_icmp_ne hd ht (fun q => kt (fun e => q ((zI_eq ha hb).mpr e))) (fun q => kf ((zI_eq ha hb).mp q))
theorem Z_if_ne {a : Int} {off : Int} {tgt : Nat} (hd : decode M.code pc = .ok (.ifCond .ne off, 3)) (ha : rg a) (ht : (pc : Int) + off = (tgt : Int)) (kt : ¬ a = 0 → At Ω M d r Q tgt L S h) (kf : a = 0 → At Ω M d r Q (pc + 3) L S h) : At Ω M d r Q pc L (.int (zI a) :: S) h :=
  have hb : rg 0 := by decide
  R_if_ne hd ht (fun q => kt (fun e => q ((zI_eq ha hb).mpr e))) (fun q => kf ((zI_eq ha hb).mp q))
theorem Z_icmp_lt {a b : Int} {off : Int} {tgt : Nat} (hd : decode M.code pc = .ok (.if_icmp .lt off, 3)) (ha : rg a) (hb : rg b) (ht : (pc : Int) + off = (tgt : Int)) (kt : a < b → At Ω M d r Q tgt L S h) (kf : b ≤ a → At Ω M d r Q (pc + 3) L S h) : At Ω M d r Q pc L (.int (zI b) :: .int (zI a) :: S) h :=
  R_icmp_lt hd ht (fun q => kt ((zI_lt ha hb).mp q)) (fun q => kf (by have := mt (zI_lt ha hb).mpr q; omega))
theorem Z_if_lt {a : Int} {off : Int} {tgt : Nat} (hd : decode M.code pc = .ok (.ifCond .lt off, 3)) (ha : rg a) (ht : (pc : Int) + off = (tgt : Int)) (kt : a < 0 → At Ω M d r Q tgt L S h) (kf : 0 ≤ a → At Ω M d r Q (pc + 3) L S h) : At Ω M d r Q pc L (.int (zI a) :: S) h :=
  have hb : rg 0 := by decide
  R_if_lt hd ht (fun q => kt ((zI_lt ha hb).mp q)) (fun q => kf (by have := mt (zI_lt ha hb).mpr q; omega))
theorem Z_icmp_ge {a b : Int} {off : Int} {tgt : Nat} (hd : decode M.code pc = .ok (.if_icmp .ge off, 3)) (ha : rg a) (hb : rg b) (ht : (pc : Int) + off = (tgt : Int)) (kt : b ≤ a → At Ω M d r Q tgt L S h) (kf : a < b → At Ω M d r Q (pc + 3) L S h) : At Ω M d r Q pc L (.int (zI b) :: .int (zI a) :: S) h :=
  R_icmp_ge hd ht (fun q => kt ((zI_le hb ha).mp q)) (fun q => kf (by have := mt (zI_le hb ha).mpr q; omega))
theorem Z_if_ge {a : Int} {off : Int} {tgt : Nat} (hd : decode M.code pc = .ok (.ifCond .ge off, 3)) (ha : rg a) (ht : (pc : Int) + off = (tgt : Int)) (kt : 0 ≤ a → At Ω M d r Q tgt L S h) (kf : a < 0 → At Ω M d r Q (pc + 3) L S h) : At Ω M d r Q pc L (.int (zI a) :: S) h :=
  have hb : rg 0 := by decide
  R_if_ge hd ht (fun q => kt ((zI_le hb ha).mp q)) (fun q => kf (by have := mt (zI_le hb ha).mpr q; omega))
theorem Z_icmp_gt {a b : Int} {off : Int} {tgt : Nat} (hd : decode M.code pc = .ok (.if_icmp .gt off, 3)) (ha : rg a) (hb : rg b) (ht : (pc : Int) + off = (tgt : Int)) (kt : b < a → At Ω M d r Q tgt L S h) (kf : a ≤ b → At Ω M d r Q (pc + 3) L S h) : At Ω M d r Q pc L (.int (zI b) :: .int (zI a) :: S) h :=
  R_icmp_gt hd ht (fun q => kt ((zI_lt hb ha).mp q)) (fun q => kf (by have := mt (zI_lt hb ha).mpr q; omega))
theorem Z_if_gt {a : Int} {off : Int} {tgt : Nat} (hd : decode M.code pc = .ok (.ifCond .gt off, 3)) (ha : rg a) (ht : (pc : Int) + off = (tgt : Int)) (kt : 0 < a → At Ω M d r Q tgt L S h) (kf : a ≤ 0 → At Ω M d r Q (pc + 3) L S h) : At Ω M d r Q pc L (.int (zI a) :: S) h :=
  have hb : rg 0 := by decide
  R_if_gt hd ht (fun q => kt ((zI_lt hb ha).mp q)) (fun q => kf (by have := mt (zI_lt hb ha).mpr q; omega))
theorem Z_icmp_le {a b : Int} {off : Int} {tgt : Nat} (hd : decode M.code pc = .ok (.if_icmp .le off, 3)) (ha : rg a) (hb : rg b) (ht : (pc : Int) + off = (tgt : Int)) (kt : a ≤ b → At Ω M d r Q tgt L S h) (kf : b < a → At Ω M d r Q (pc + 3) L S h) : At Ω M d r Q pc L (.int (zI b) :: .int (zI a) :: S) h :=
  R_icmp_le hd ht (fun q => kt ((zI_le ha hb).mp q)) (fun q => kf (by have := mt (zI_le ha hb).mpr q; omega))
theorem Z_if_le {a : Int} {off : Int} {tgt : Nat} (hd : decode M.code pc = .ok (.ifCond .le off, 3)) (ha : rg a) (ht : (pc : Int) + off = (tgt : Int)) (kt : a ≤ 0 → At Ω M d r Q tgt L S h) (kf : 0 < a → At Ω M d r Q (pc + 3) L S h) : At Ω M d r Q pc L (.int (zI a) :: S) h :=
  have hb : rg 0 := by decide
  R_if_le hd ht (fun q => kt ((zI_le ha hb).mp q)) (fun q => kf (by have := mt (zI_le ha hb).mpr q; omega))
theorem Z_if_eqB {p : Prop} {off : Int} {tgt : Nat} (hd : decode M.code pc = .ok (.ifCond .eq off, 3)) (ht : (pc : Int) + off = (tgt : Int)) (kt : ¬ p → At Ω M d r Q tgt L S h) (kf : p → At Ω M d r Q (pc + 3) L S h) : At Ω M d r Q pc L (.int (zI (b2i p)) :: S) h :=
  Z_if_eq hd (by have := b2i_rg p; exact ⟨by omega, by omega⟩) ht (fun q => kt (b2i_e0.mp q)) (fun q => kf (Classical.byContradiction fun z => q (b2i_0 z)))
theorem Z_if_neB {p : Prop} {off : Int} {tgt : Nat} (hd : decode M.code pc = .ok (.ifCond .ne off, 3)) (ht : (pc : Int) + off = (tgt : Int)) (kt : p → At Ω M d r Q tgt L S h) (kf : ¬ p → At Ω M d r Q (pc + 3) L S h) : At Ω M d r Q pc L (.int (zI (b2i p)) :: S) h :=
  Z_if_ne hd (by have := b2i_rg p; exact ⟨by omega, by omega⟩) ht (fun q => kt (Classical.byContradiction fun z => q (b2i_0 z))) (fun q => kf (b2i_e0.mp q))
theorem Z_idiv2 {a : Int} (hd : decode M.code pc = .ok (.idiv, 1)) (ha : 0 ≤ a ∧ a < 100) (k : At Ω M d r Q (pc + 1) L (.int (zI (a / 2)) :: S) h) : At Ω M d r Q pc L (.int (zI 2) :: .int (zI a) :: S) h := by
  refine R_idiv hd (by decide) ?_
  have e : zI a / zI 2 = zI (a / 2) := by
    obtain ⟨n, rfl⟩ : ∃ n : Nat, a = n := ⟨a.toNat, by omega⟩
    have hn : n < 100 := by omega
    have : ∀ n : Fin 100, zI ((n : Nat) : Int) / zI 2 = zI (((n : Nat) : Int) / 2) := by decide +kernel
    exact this ⟨n, hn⟩
  rw [e]; exact k
theorem Z_retV (hd : decode M.code pc = .ok (.return_, 1)) (hf : M.ret = none) (hQ : Q h (.inl none)) : At Ω M d r Q pc L [] h :=
  R_ret (v := none) hd rfl hf hQ
theorem Z_retI {x : Int32} (hd : decode M.code pc = .ok (.ireturn, 1)) (hf : rFit M.ret (some (.int x))) (hQ : Q h (.inl (some (.int x)))) : At Ω M d r Q pc L [.int x] h :=
  R_ret (v := some (.int x)) hd rfl hf hQ
theorem Z_retL {x : Int64} (hd : decode M.code pc = .ok (.lreturn, 1)) (hf : rFit M.ret (some (.long x))) (hQ : Q h (.inl (some (.long x)))) : At Ω M d r Q pc L [.long x] h :=
  R_ret (v := some (.long x)) hd rfl hf hQ
theorem Z_retF {x : UInt32} (hd : decode M.code pc = .ok (.freturn, 1)) (hf : rFit M.ret (some (.float x))) (hQ : Q h (.inl (some (.float x)))) : At Ω M d r Q pc L [.float x] h :=
  R_ret (v := some (.float x)) hd rfl hf hQ
theorem Z_retD {x : UInt64} (hd : decode M.code pc = .ok (.dreturn, 1)) (hf : rFit M.ret (some (.double x))) (hQ : Q h (.inl (some (.double x)))) : At Ω M d r Q pc L [.double x] h :=
  R_ret (v := some (.double x)) hd rfl hf hQ
theorem Z_retA {v : Value} (hd : decode M.code pc = .ok (.areturn, 1)) (hv : isR v = true) (hf : rFit M.ret (some v)) (hQ : Q h (.inl (some v))) : At Ω M d r Q pc L [v] h := by
  cases v with
  | null => exact R_ret (v := some .null) hd rfl hf hQ
  | ref a => exact R_ret (v := some (.ref a)) hd rfl hf hQ
  | _ => cases hv
def subL : List (Option Value) → List (Option Value) → Prop
  | [], _ => True
  | none :: t, _ :: u => subL t u
  | some v :: t, y :: u => y = some v ∧ subL t u
  | _ :: _, [] => False
theorem subL.at : ∀ (L1 L2 : List (Option Value)), subL L1 L2 → ∀ (i : Nat) (v : Value), L1[i]? = some (some v) → L2[i]? = some (some v)
  | [], _, _, i, v, h => by simp at h
  | none :: t, y :: u, hs, 0, v, h => by simp at h
  | none :: t, y :: u, hs, i + 1, v, h => by simpa using subL.at t u hs i v (by simpa using h)
  | some w :: t, y :: u, hs, 0, v, h => by
    have e : w = v := by simpa using h
    rw [hs.1, e]; rfl
  | some w :: t, y :: u, hs, i + 1, v, h => by simpa using subL.at t u hs.2 i v (by simpa using h)
  | none :: t, [], hs, i, v, h => hs.elim
  | some w :: t, [], hs, i, v, h => hs.elim
theorem At.dropS (L' : List (Option Value)) (hs : subL L' L) (k : At Ω M d r Q pc L' S h) : At Ω M d r Q pc L S h := At.drop L' (subL.at L' L hs) k
theorem z_joinB (p : Prop) (pj : Nat) (kj : At Ω M d r Q pj L (.int (zI (b2i p)) :: S) h) (k : (p → At Ω M d r Q pj L (.int (zI 1) :: S) h) → (¬ p → At Ω M d r Q pj L (.int (zI 0) :: S) h) → At Ω M d r Q pc L S h) : At Ω M d r Q pc L S h :=
  k (fun q => by rw [b2i_1 q] at kj; exact kj) (fun q => by rw [b2i_0 q] at kj; exact kj)
theorem z_joinI (v : Int) (pj : Nat) (kj : At Ω M d r Q pj L (.int (zI v) :: S) h) (k : (∀ w, w = v → At Ω M d r Q pj L (.int (zI w) :: S) h) → At Ω M d r Q pc L S h) : At Ω M d r Q pc L S h :=
  k (fun w e => e ▸ kj)
/-- reading an int array of zI -/
theorem Z_ld {a j g N : Nat} {f : Nat → Int32} {i v : Int} (hd : decode M.code pc = .ok (.iaload, 1)) (ha : h.1 a = some (g, 100 + j, ial N f)) (hq : ∃ cA, (tysOf Ω.A)[j]? = some (cA, .int)) (hN : N ≤ 100000) (hi : 0 ≤ i ∧ i < (N : Int)) (hv : f i.toNat = zI v) (kk : At Ω M d r Q (pc + 1) L (.int (zI v) :: S) h) : At Ω M d r Q pc L (.int (zI i) :: .ref a :: S) h :=
  R_iald hd ha hq (zI_nI' hi.1) (by omega) hN (by rw [hv]; exact kk)
theorem Z_st {a g N : Nat} {f : Nat → Int32} {i : Int} {y : Int32} (hd : decode M.code pc = .ok (.iastore, 1)) (ha : h.1 a = some (g, 100, ial N f)) (hN : N ≤ 100000) (hi : 0 ≤ i ∧ i < (N : Int)) (kk : At Ω M d r Q (pc + 1) L S (hput h a (g, 100, ial N (upd f i.toNat y)))) : At Ω M d r Q pc L (.int y :: .int (zI i) :: .ref a :: S) h :=
  R_iast hd ha (zI_nI' hi.1) (by omega) hN kk
end
/-! the model's heap: one function of keys -/
abbrev St : Type := Int → Int
def us (σ : St) (i v : Int) : St := fun k => if k = i then v else σ k
theorem us_eq (σ : St) (i v : Int) : us σ i v i = v := if_pos rfl
theorem us_ne {σ : St} {i v k : Int} (h : k ≠ i) : us σ i v k = σ k := if_neg h
def mo (σ : St) (b : Nat) : Nat → Obj
  | 0 => (1, 14, [.ref (b + 1), .ref (b + 2), .int (zI (σ 700)), .ref (b + 3), .int (zI (σ 701)), .ref (b + 4), .int (zI (σ 702)), .int (zI (σ 703)), .ref (b + 5), .ref (b + 6), .int (zI (σ 704)), .int (zI (σ 705)), .ref (b + 7), .long (zL (σ 706 + 4294967296 * σ 707))])
  | 1 => (1, 100, ial 299 (fun k => zI (σ k)))
  | 2 => (1, 100, ial 1495 (fun k => zI (σ (1000 + k))))
  | 3 => (1, 100, ial 299 (fun k => zI (σ (300 + k))))
  | 4 => (1, 100, ial 60 (fun k => zI (σ (600 + k))))
  | 5 => (1, 100, ial 4 (fun k => zI (σ (710 + k))))
  | 6 => (1, 100, ial 4 (fun k => zI (σ (720 + k))))
  | _ => (1, 100, ial 10 (fun k => zI (σ (730 + k))))
def mh (b : Nat) (h0 : Hp) (σ : St) : Hp := (fun q => if q < b then h0.1 q else if q < b + 8 then some (mo σ b (q - b)) else h0.1 q, h0.2)
theorem mh_get {b : Nat} {h0 : Hp} {σ : St} {j : Nat} (hj : j < 8) : (mh b h0 σ).1 (b + j) = some (mo σ b j) := by
  show (if b + j < b then _ else if b + j < b + 8 then some (mo σ b (b + j - b)) else _) = _
  rw [if_neg (by omega), if_pos (by omega), show b + j - b = j by omega]
theorem mh_get0 {b : Nat} {h0 : Hp} {σ : St} : (mh b h0 σ).1 b = some (mo σ b 0) := mh_get (j := 0) (by decide)
theorem mh_out {b : Nat} {h0 : Hp} {σ : St} {q : Nat} (hq : q < b ∨ b + 8 ≤ q) : (mh b h0 σ).1 q = h0.1 q := by
  show (if q < b then _ else if q < b + 8 then _ else _) = _
  split
  · rfl
  · rw [if_neg (by omega)]
theorem mh_put {b : Nat} {h0 : Hp} {σ τ : St} {j : Nat} {o : Obj} (hj : j < 8) (he : mo τ b j = o) (hn : ∀ i, i < 8 → i ≠ j → mo τ b i = mo σ b i) : hput (mh b h0 σ) (b + j) o = mh b h0 τ := by
  refine Prod.ext (funext fun q => ?_) rfl
  show (if q = b + j then some o else if q < b then h0.1 q else if q < b + 8 then some (mo σ b (q - b)) else h0.1 q) = (if q < b then h0.1 q else if q < b + 8 then some (mo τ b (q - b)) else h0.1 q)
  by_cases e : q = b + j
  · subst e
    rw [if_pos rfl, if_neg (by omega), if_pos (by omega), show b + j - b = j by omega, he]
  · rw [if_neg e]
    by_cases e1 : q < b
    · rw [if_pos e1, if_pos e1]
    · rw [if_neg e1, if_neg e1]
      by_cases e2 : q < b + 8
      · rw [if_pos e2, if_pos e2, hn (q - b) (by omega) (by omega)]
      · rw [if_neg e2, if_neg e2]
theorem mh_ge {b : Nat} {h0 : Hp} {σ τ : St} (h : ∀ i, i < 8 → mo τ b i = mo σ b i) : mh b h0 σ = mh b h0 τ := by
  refine Prod.ext (funext fun q => ?_) rfl
  show (if q < b then h0.1 q else if q < b + 8 then some (mo σ b (q - b)) else h0.1 q) = (if q < b then h0.1 q else if q < b + 8 then some (mo τ b (q - b)) else h0.1 q)
  by_cases e1 : q < b
  · rw [if_pos e1, if_pos e1]
  · rw [if_neg e1, if_neg e1]
    by_cases e2 : q < b + 8
    · rw [if_pos e2, if_pos e2, h (q - b) (by omega)]
    · rw [if_neg e2, if_neg e2]
/-- a long's two halves -/
def loI (h : Int) : Int := (zI h).toInt
def hiI (h : Int) : Int := (zI ((h - loI h) / 4294967296)).toInt
theorem zI_mod (h : Int) : ∃ m : Int, h = (zI h).toInt + 4294967296 * m := by
  have e : (zI h).toInt = Int.bmod h 4294967296 := Int32.toInt_ofInt
  rw [e]
  refine ⟨h.bdiv 4294967296, ?_⟩
  have := Int.bmod_add_bdiv h 4294967296
  omega
theorem zL_halves (h : Int) : zL (loI h + 4294967296 * hiI h) = zL h := by
  obtain ⟨m, hm⟩ := zI_mod h
  have e : (h - loI h) / 4294967296 = m := by
    unfold loI
    omega
  obtain ⟨n, hn⟩ := zI_mod m
  have e2 : hiI h = (zI m).toInt := by unfold hiI; rw [e]
  apply Int64.toInt_inj.mp
  show (Int64.ofInt _).toInt = (Int64.ofInt _).toInt
  rw [Int64.toInt_ofInt, Int64.toInt_ofInt, e2]
  have e3 : h = loI h + 4294967296 * (zI m).toInt + 18446744073709551616 * n := by
    unfold loI
    omega
  show Int.bmod (loI h + 4294967296 * (zI m).toInt) 18446744073709551616 = Int.bmod h 18446744073709551616
  rw [show Int.bmod h 18446744073709551616 = Int.bmod (loI h + 4294967296 * (zI m).toInt + 18446744073709551616 * n) 18446744073709551616 from congrArg (fun z => Int.bmod z 18446744073709551616) e3]
  exact (Int.add_mul_bmod_self_left (loI h + 4294967296 * (zI m).toInt) 18446744073709551616 n).symm
/-- the hash is h -/
def hs (σ : St) (h : Int) : St := us (us σ 706 (loI h)) 707 (hiI h)
theorem hs_ne {σ : St} {h k : Int} (hk : k ≠ 706 ∧ k ≠ 707) : hs σ h k = σ k := by
  unfold hs
  rw [us_ne hk.2, us_ne hk.1]
theorem hs_hs (σ : St) (h g : Int) : hs (hs σ h) g = hs σ g := by
  funext k
  unfold hs us
  by_cases e : k = 707
  · rw [if_pos e, if_pos e]
  · rw [if_neg e, if_neg e]
    by_cases e2 : k = 706
    · rw [if_pos e2, if_neg e, if_pos e2]
    · rw [if_neg e2, if_neg e, if_neg e2, if_neg e2]
theorem hs_v (σ : St) (h : Int) : zL (hs σ h 706 + 4294967296 * hs σ h 707) = zL h := by
  have e1 : hs σ h 706 = loI h := by
    unfold hs
    rw [us_ne (by omega), us_eq]
  have e2 : hs σ h 707 = hiI h := us_eq _ _ _
  rw [e1, e2]
  exact zL_halves h
theorem ial_cg {n : Nat} {σ τ : St} {f g : Nat → Int} (h : ∀ k, k < n → τ (f k) = σ (g k)) : ial n (fun k => zI (τ (f k))) = ial n (fun k => zI (σ (g k))) := ial_ext fun k hk => by rw [h k hk]

theorem mo_us0 {σ : St} {b : Nat} {i v : Int} (h : i < 700 ∨ 708 ≤ i) : mo (us σ i v) b 0 = mo σ b 0 := by
  simp only [mo]
  rw [us_ne (by omega : (700 : Int) ≠ i), us_ne (by omega : (701 : Int) ≠ i), us_ne (by omega : (702 : Int) ≠ i), us_ne (by omega : (703 : Int) ≠ i), us_ne (by omega : (704 : Int) ≠ i), us_ne (by omega : (705 : Int) ≠ i), us_ne (by omega : (706 : Int) ≠ i), us_ne (by omega : (707 : Int) ≠ i)]
theorem mo_us1 {σ : St} {b : Nat} {i v : Int} (h : i < 0 ∨ 299 ≤ i) : mo (us σ i v) b 1 = mo σ b 1 := by
  show (1, 100, ial 299 _) = ((1, 100, ial 299 _) : Obj)
  rw [ial_cg (fun k hk => us_ne (by omega))]
theorem mo_us2 {σ : St} {b : Nat} {i v : Int} (h : i < 1000 ∨ 2495 ≤ i) : mo (us σ i v) b 2 = mo σ b 2 := by
  show (1, 100, ial 1495 _) = ((1, 100, ial 1495 _) : Obj)
  rw [ial_cg (fun k hk => us_ne (by omega))]
theorem mo_us3 {σ : St} {b : Nat} {i v : Int} (h : i < 300 ∨ 599 ≤ i) : mo (us σ i v) b 3 = mo σ b 3 := by
  show (1, 100, ial 299 _) = ((1, 100, ial 299 _) : Obj)
  rw [ial_cg (fun k hk => us_ne (by omega))]
theorem mo_us4 {σ : St} {b : Nat} {i v : Int} (h : i < 600 ∨ 660 ≤ i) : mo (us σ i v) b 4 = mo σ b 4 := by
  show (1, 100, ial 60 _) = ((1, 100, ial 60 _) : Obj)
  rw [ial_cg (fun k hk => us_ne (by omega))]
theorem mo_us5 {σ : St} {b : Nat} {i v : Int} (h : i < 710 ∨ 714 ≤ i) : mo (us σ i v) b 5 = mo σ b 5 := by
  show (1, 100, ial 4 _) = ((1, 100, ial 4 _) : Obj)
  rw [ial_cg (fun k hk => us_ne (by omega))]
theorem mo_us6 {σ : St} {b : Nat} {i v : Int} (h : i < 720 ∨ 724 ≤ i) : mo (us σ i v) b 6 = mo σ b 6 := by
  show (1, 100, ial 4 _) = ((1, 100, ial 4 _) : Obj)
  rw [ial_cg (fun k hk => us_ne (by omega))]
theorem mo_us7 {σ : St} {b : Nat} {i v : Int} (h : i < 730 ∨ 740 ≤ i) : mo (us σ i v) b 7 = mo σ b 7 := by
  show (1, 100, ial 10 _) = ((1, 100, ial 10 _) : Obj)
  rw [ial_cg (fun k hk => us_ne (by omega))]
theorem mo_usA {σ : St} {b j : Nat} {i v : Int} (hj : j < 8) (hi : 0 ≤ i) (h0 : j = 0 → i < 700 ∨ 708 ≤ i) (h1 : j = 1 → 299 ≤ i) (h2 : j = 2 → i < 1000 ∨ 2495 ≤ i) (h3 : j = 3 → i < 300 ∨ 599 ≤ i) (h4 : j = 4 → i < 600 ∨ 660 ≤ i) (h5 : j = 5 → i < 710 ∨ 714 ≤ i) (h6 : j = 6 → i < 720 ∨ 724 ≤ i) (h7 : j = 7 → i < 730 ∨ 740 ≤ i) : mo (us σ i v) b j = mo σ b j := by
  rcases (by omega : j = 0 ∨ j = 1 ∨ j = 2 ∨ j = 3 ∨ j = 4 ∨ j = 5 ∨ j = 6 ∨ j = 7) with e | e | e | e | e | e | e | e <;> subst e
  · exact mo_us0 (h0 rfl)
  · exact mo_us1 (Or.inr (h1 rfl))
  · exact mo_us2 (h2 rfl)
  · exact mo_us3 (h3 rfl)
  · exact mo_us4 (h4 rfl)
  · exact mo_us5 (h5 rfl)
  · exact mo_us6 (h6 rfl)
  · exact mo_us7 (h7 rfl)

theorem mh_st1 {b : Nat} {h0 : Hp} {σ : St} {i v : Int} (hi : 0 ≤ i ∧ i < 299) : hput (mh b h0 σ) (b + 1) (1, 100, ial 299 (upd (fun k => zI (σ k)) i.toNat (zI v))) = mh b h0 (us σ (i) v) := by
  refine mh_put (by decide) ?_ (fun z hz hne => mo_usA hz (by omega) (by omega) (by omega) (by omega) (by omega) (by omega) (by omega) (by omega) (by omega))
  show (1, 100, ial 299 _) = ((1, 100, ial 299 _) : Obj)
  rw [ial_ext (g := upd (fun k => zI (σ k)) i.toNat (zI v))]
  intro k hk
  by_cases e : k = i.toNat
  · rw [show upd (fun k => zI (σ k)) i.toNat (zI v) k = zI v from if_pos e]
    show zI (us σ _ v _) = _
    rw [show us σ (i) v (k : Int) = v from if_pos (by omega)]
  · rw [show upd (fun k => zI (σ k)) i.toNat (zI v) k = zI (σ (k : Int)) from if_neg e]
    show zI (us σ _ v _) = _
    rw [show us σ (i) v (k : Int) = σ (k : Int) from if_neg (by omega)]
theorem mh_st2 {b : Nat} {h0 : Hp} {σ : St} {i v : Int} (hi : 0 ≤ i ∧ i < 1495) : hput (mh b h0 σ) (b + 2) (1, 100, ial 1495 (upd (fun k => zI (σ (1000 + k))) i.toNat (zI v))) = mh b h0 (us σ (1000 + i) v) := by
  refine mh_put (by decide) ?_ (fun z hz hne => mo_usA hz (by omega) (by omega) (by omega) (by omega) (by omega) (by omega) (by omega) (by omega) (by omega))
  show (1, 100, ial 1495 _) = ((1, 100, ial 1495 _) : Obj)
  rw [ial_ext (g := upd (fun k => zI (σ (1000 + k))) i.toNat (zI v))]
  intro k hk
  by_cases e : k = i.toNat
  · rw [show upd (fun k => zI (σ (1000 + k))) i.toNat (zI v) k = zI v from if_pos e]
    show zI (us σ _ v _) = _
    rw [show us σ (1000 + i) v (1000 + (k : Int)) = v from if_pos (by omega)]
  · rw [show upd (fun k => zI (σ (1000 + k))) i.toNat (zI v) k = zI (σ (1000 + (k : Int))) from if_neg e]
    show zI (us σ _ v _) = _
    rw [show us σ (1000 + i) v (1000 + (k : Int)) = σ (1000 + (k : Int)) from if_neg (by omega)]
theorem mh_st3 {b : Nat} {h0 : Hp} {σ : St} {i v : Int} (hi : 0 ≤ i ∧ i < 299) : hput (mh b h0 σ) (b + 3) (1, 100, ial 299 (upd (fun k => zI (σ (300 + k))) i.toNat (zI v))) = mh b h0 (us σ (300 + i) v) := by
  refine mh_put (by decide) ?_ (fun z hz hne => mo_usA hz (by omega) (by omega) (by omega) (by omega) (by omega) (by omega) (by omega) (by omega) (by omega))
  show (1, 100, ial 299 _) = ((1, 100, ial 299 _) : Obj)
  rw [ial_ext (g := upd (fun k => zI (σ (300 + k))) i.toNat (zI v))]
  intro k hk
  by_cases e : k = i.toNat
  · rw [show upd (fun k => zI (σ (300 + k))) i.toNat (zI v) k = zI v from if_pos e]
    show zI (us σ _ v _) = _
    rw [show us σ (300 + i) v (300 + (k : Int)) = v from if_pos (by omega)]
  · rw [show upd (fun k => zI (σ (300 + k))) i.toNat (zI v) k = zI (σ (300 + (k : Int))) from if_neg e]
    show zI (us σ _ v _) = _
    rw [show us σ (300 + i) v (300 + (k : Int)) = σ (300 + (k : Int)) from if_neg (by omega)]
theorem mh_st4 {b : Nat} {h0 : Hp} {σ : St} {i v : Int} (hi : 0 ≤ i ∧ i < 60) : hput (mh b h0 σ) (b + 4) (1, 100, ial 60 (upd (fun k => zI (σ (600 + k))) i.toNat (zI v))) = mh b h0 (us σ (600 + i) v) := by
  refine mh_put (by decide) ?_ (fun z hz hne => mo_usA hz (by omega) (by omega) (by omega) (by omega) (by omega) (by omega) (by omega) (by omega) (by omega))
  show (1, 100, ial 60 _) = ((1, 100, ial 60 _) : Obj)
  rw [ial_ext (g := upd (fun k => zI (σ (600 + k))) i.toNat (zI v))]
  intro k hk
  by_cases e : k = i.toNat
  · rw [show upd (fun k => zI (σ (600 + k))) i.toNat (zI v) k = zI v from if_pos e]
    show zI (us σ _ v _) = _
    rw [show us σ (600 + i) v (600 + (k : Int)) = v from if_pos (by omega)]
  · rw [show upd (fun k => zI (σ (600 + k))) i.toNat (zI v) k = zI (σ (600 + (k : Int))) from if_neg e]
    show zI (us σ _ v _) = _
    rw [show us σ (600 + i) v (600 + (k : Int)) = σ (600 + (k : Int)) from if_neg (by omega)]
theorem mh_st5 {b : Nat} {h0 : Hp} {σ : St} {i v : Int} (hi : 0 ≤ i ∧ i < 4) : hput (mh b h0 σ) (b + 5) (1, 100, ial 4 (upd (fun k => zI (σ (710 + k))) i.toNat (zI v))) = mh b h0 (us σ (710 + i) v) := by
  refine mh_put (by decide) ?_ (fun z hz hne => mo_usA hz (by omega) (by omega) (by omega) (by omega) (by omega) (by omega) (by omega) (by omega) (by omega))
  show (1, 100, ial 4 _) = ((1, 100, ial 4 _) : Obj)
  rw [ial_ext (g := upd (fun k => zI (σ (710 + k))) i.toNat (zI v))]
  intro k hk
  by_cases e : k = i.toNat
  · rw [show upd (fun k => zI (σ (710 + k))) i.toNat (zI v) k = zI v from if_pos e]
    show zI (us σ _ v _) = _
    rw [show us σ (710 + i) v (710 + (k : Int)) = v from if_pos (by omega)]
  · rw [show upd (fun k => zI (σ (710 + k))) i.toNat (zI v) k = zI (σ (710 + (k : Int))) from if_neg e]
    show zI (us σ _ v _) = _
    rw [show us σ (710 + i) v (710 + (k : Int)) = σ (710 + (k : Int)) from if_neg (by omega)]
theorem mh_st6 {b : Nat} {h0 : Hp} {σ : St} {i v : Int} (hi : 0 ≤ i ∧ i < 4) : hput (mh b h0 σ) (b + 6) (1, 100, ial 4 (upd (fun k => zI (σ (720 + k))) i.toNat (zI v))) = mh b h0 (us σ (720 + i) v) := by
  refine mh_put (by decide) ?_ (fun z hz hne => mo_usA hz (by omega) (by omega) (by omega) (by omega) (by omega) (by omega) (by omega) (by omega) (by omega))
  show (1, 100, ial 4 _) = ((1, 100, ial 4 _) : Obj)
  rw [ial_ext (g := upd (fun k => zI (σ (720 + k))) i.toNat (zI v))]
  intro k hk
  by_cases e : k = i.toNat
  · rw [show upd (fun k => zI (σ (720 + k))) i.toNat (zI v) k = zI v from if_pos e]
    show zI (us σ _ v _) = _
    rw [show us σ (720 + i) v (720 + (k : Int)) = v from if_pos (by omega)]
  · rw [show upd (fun k => zI (σ (720 + k))) i.toNat (zI v) k = zI (σ (720 + (k : Int))) from if_neg e]
    show zI (us σ _ v _) = _
    rw [show us σ (720 + i) v (720 + (k : Int)) = σ (720 + (k : Int)) from if_neg (by omega)]
theorem mh_st7 {b : Nat} {h0 : Hp} {σ : St} {i v : Int} (hi : 0 ≤ i ∧ i < 10) : hput (mh b h0 σ) (b + 7) (1, 100, ial 10 (upd (fun k => zI (σ (730 + k))) i.toNat (zI v))) = mh b h0 (us σ (730 + i) v) := by
  refine mh_put (by decide) ?_ (fun z hz hne => mo_usA hz (by omega) (by omega) (by omega) (by omega) (by omega) (by omega) (by omega) (by omega) (by omega))
  show (1, 100, ial 10 _) = ((1, 100, ial 10 _) : Obj)
  rw [ial_ext (g := upd (fun k => zI (σ (730 + k))) i.toNat (zI v))]
  intro k hk
  by_cases e : k = i.toNat
  · rw [show upd (fun k => zI (σ (730 + k))) i.toNat (zI v) k = zI v from if_pos e]
    show zI (us σ _ v _) = _
    rw [show us σ (730 + i) v (730 + (k : Int)) = v from if_pos (by omega)]
  · rw [show upd (fun k => zI (σ (730 + k))) i.toNat (zI v) k = zI (σ (730 + (k : Int))) from if_neg e]
    show zI (us σ _ v _) = _
    rw [show us σ (730 + i) v (730 + (k : Int)) = σ (730 + (k : Int)) from if_neg (by omega)]
theorem mh_pf2 {b : Nat} {h0 : Hp} {σ : St} {v : Int} : hput (mh b h0 σ) b (1, 14, (mo σ b 0).2.2.set 2 (.int (zI v))) = mh b h0 (us σ 700 v) := by
  refine mh_put (j := 0) (by decide) ?_ (fun z hz hne => mo_usA hz (by omega) (by omega) (by omega) (by omega) (by omega) (by omega) (by omega) (by omega) (by omega))
  simp only [mo, us, List.set]
  rfl
theorem mh_pf4 {b : Nat} {h0 : Hp} {σ : St} {v : Int} : hput (mh b h0 σ) b (1, 14, (mo σ b 0).2.2.set 4 (.int (zI v))) = mh b h0 (us σ 701 v) := by
  refine mh_put (j := 0) (by decide) ?_ (fun z hz hne => mo_usA hz (by omega) (by omega) (by omega) (by omega) (by omega) (by omega) (by omega) (by omega) (by omega))
  simp only [mo, us, List.set]
  rfl
theorem mh_pf6 {b : Nat} {h0 : Hp} {σ : St} {v : Int} : hput (mh b h0 σ) b (1, 14, (mo σ b 0).2.2.set 6 (.int (zI v))) = mh b h0 (us σ 702 v) := by
  refine mh_put (j := 0) (by decide) ?_ (fun z hz hne => mo_usA hz (by omega) (by omega) (by omega) (by omega) (by omega) (by omega) (by omega) (by omega) (by omega))
  simp only [mo, us, List.set]
  rfl
theorem mh_pf7 {b : Nat} {h0 : Hp} {σ : St} {v : Int} : hput (mh b h0 σ) b (1, 14, (mo σ b 0).2.2.set 7 (.int (zI v))) = mh b h0 (us σ 703 v) := by
  refine mh_put (j := 0) (by decide) ?_ (fun z hz hne => mo_usA hz (by omega) (by omega) (by omega) (by omega) (by omega) (by omega) (by omega) (by omega) (by omega))
  simp only [mo, us, List.set]
  rfl
theorem mh_pf10 {b : Nat} {h0 : Hp} {σ : St} {v : Int} : hput (mh b h0 σ) b (1, 14, (mo σ b 0).2.2.set 10 (.int (zI v))) = mh b h0 (us σ 704 v) := by
  refine mh_put (j := 0) (by decide) ?_ (fun z hz hne => mo_usA hz (by omega) (by omega) (by omega) (by omega) (by omega) (by omega) (by omega) (by omega) (by omega))
  simp only [mo, us, List.set]
  rfl
theorem mh_pf11 {b : Nat} {h0 : Hp} {σ : St} {v : Int} : hput (mh b h0 σ) b (1, 14, (mo σ b 0).2.2.set 11 (.int (zI v))) = mh b h0 (us σ 705 v) := by
  refine mh_put (j := 0) (by decide) ?_ (fun z hz hne => mo_usA hz (by omega) (by omega) (by omega) (by omega) (by omega) (by omega) (by omega) (by omega) (by omega))
  simp only [mo, us, List.set]
  rfl
section
variable {Ω : Wd} {M : MD} {d r : Nat} {Q : Hp → Out → Prop} {pc : Nat} {L : List (Option Value)} {S : List Value} {b : Nat} {h0 : Hp} {σ : St}
theorem Zm_ld1 {i : Int} (hd : decode M.code pc = .ok (.iaload, 1)) (hi : 0 ≤ i ∧ i < 299) (kk : At Ω M d r Q (pc + 1) L (.int (zI (σ (i))) :: S) (mh b h0 σ)) : At Ω M d r Q pc L (.int (zI i) :: .ref (b + 1) :: S) (mh b h0 σ) :=
  Z_ld (j := 0) (N := 299) (f := fun k => zI (σ ((k : Int)))) hd (mh_get (j := 1) (by decide)) ⟨_, rfl⟩ (by decide) hi (by show zI (σ _) = _; rw [show (i.toNat : Int) = i by omega]) kk
theorem Zm_st1 {i v : Int} (hd : decode M.code pc = .ok (.iastore, 1)) (hi : 0 ≤ i ∧ i < 299) (kk : At Ω M d r Q (pc + 1) L S (mh b h0 (us σ (i) v))) : At Ω M d r Q pc L (.int (zI v) :: .int (zI i) :: .ref (b + 1) :: S) (mh b h0 σ) :=
  Z_st (N := 299) (f := fun k => zI (σ ((k : Int)))) hd (mh_get (j := 1) (by decide)) (by decide) hi (by rw [mh_st1 hi]; exact kk)
theorem Zm_ld2 {i : Int} (hd : decode M.code pc = .ok (.iaload, 1)) (hi : 0 ≤ i ∧ i < 1495) (kk : At Ω M d r Q (pc + 1) L (.int (zI (σ (1000 + i))) :: S) (mh b h0 σ)) : At Ω M d r Q pc L (.int (zI i) :: .ref (b + 2) :: S) (mh b h0 σ) :=
  Z_ld (j := 0) (N := 1495) (f := fun k => zI (σ (1000 + (k : Int)))) hd (mh_get (j := 2) (by decide)) ⟨_, rfl⟩ (by decide) hi (by show zI (σ _) = _; rw [show (1000 + (i.toNat : Int)) = 1000 + i by omega]) kk
theorem Zm_st2 {i v : Int} (hd : decode M.code pc = .ok (.iastore, 1)) (hi : 0 ≤ i ∧ i < 1495) (kk : At Ω M d r Q (pc + 1) L S (mh b h0 (us σ (1000 + i) v))) : At Ω M d r Q pc L (.int (zI v) :: .int (zI i) :: .ref (b + 2) :: S) (mh b h0 σ) :=
  Z_st (N := 1495) (f := fun k => zI (σ (1000 + (k : Int)))) hd (mh_get (j := 2) (by decide)) (by decide) hi (by rw [mh_st2 hi]; exact kk)
theorem Zm_ld3 {i : Int} (hd : decode M.code pc = .ok (.iaload, 1)) (hi : 0 ≤ i ∧ i < 299) (kk : At Ω M d r Q (pc + 1) L (.int (zI (σ (300 + i))) :: S) (mh b h0 σ)) : At Ω M d r Q pc L (.int (zI i) :: .ref (b + 3) :: S) (mh b h0 σ) :=
  Z_ld (j := 0) (N := 299) (f := fun k => zI (σ (300 + (k : Int)))) hd (mh_get (j := 3) (by decide)) ⟨_, rfl⟩ (by decide) hi (by show zI (σ _) = _; rw [show (300 + (i.toNat : Int)) = 300 + i by omega]) kk
theorem Zm_st3 {i v : Int} (hd : decode M.code pc = .ok (.iastore, 1)) (hi : 0 ≤ i ∧ i < 299) (kk : At Ω M d r Q (pc + 1) L S (mh b h0 (us σ (300 + i) v))) : At Ω M d r Q pc L (.int (zI v) :: .int (zI i) :: .ref (b + 3) :: S) (mh b h0 σ) :=
  Z_st (N := 299) (f := fun k => zI (σ (300 + (k : Int)))) hd (mh_get (j := 3) (by decide)) (by decide) hi (by rw [mh_st3 hi]; exact kk)
theorem Zm_ld4 {i : Int} (hd : decode M.code pc = .ok (.iaload, 1)) (hi : 0 ≤ i ∧ i < 60) (kk : At Ω M d r Q (pc + 1) L (.int (zI (σ (600 + i))) :: S) (mh b h0 σ)) : At Ω M d r Q pc L (.int (zI i) :: .ref (b + 4) :: S) (mh b h0 σ) :=
  Z_ld (j := 0) (N := 60) (f := fun k => zI (σ (600 + (k : Int)))) hd (mh_get (j := 4) (by decide)) ⟨_, rfl⟩ (by decide) hi (by show zI (σ _) = _; rw [show (600 + (i.toNat : Int)) = 600 + i by omega]) kk
theorem Zm_st4 {i v : Int} (hd : decode M.code pc = .ok (.iastore, 1)) (hi : 0 ≤ i ∧ i < 60) (kk : At Ω M d r Q (pc + 1) L S (mh b h0 (us σ (600 + i) v))) : At Ω M d r Q pc L (.int (zI v) :: .int (zI i) :: .ref (b + 4) :: S) (mh b h0 σ) :=
  Z_st (N := 60) (f := fun k => zI (σ (600 + (k : Int)))) hd (mh_get (j := 4) (by decide)) (by decide) hi (by rw [mh_st4 hi]; exact kk)
theorem Zm_ld5 {i : Int} (hd : decode M.code pc = .ok (.iaload, 1)) (hi : 0 ≤ i ∧ i < 4) (kk : At Ω M d r Q (pc + 1) L (.int (zI (σ (710 + i))) :: S) (mh b h0 σ)) : At Ω M d r Q pc L (.int (zI i) :: .ref (b + 5) :: S) (mh b h0 σ) :=
  Z_ld (j := 0) (N := 4) (f := fun k => zI (σ (710 + (k : Int)))) hd (mh_get (j := 5) (by decide)) ⟨_, rfl⟩ (by decide) hi (by show zI (σ _) = _; rw [show (710 + (i.toNat : Int)) = 710 + i by omega]) kk
theorem Zm_st5 {i v : Int} (hd : decode M.code pc = .ok (.iastore, 1)) (hi : 0 ≤ i ∧ i < 4) (kk : At Ω M d r Q (pc + 1) L S (mh b h0 (us σ (710 + i) v))) : At Ω M d r Q pc L (.int (zI v) :: .int (zI i) :: .ref (b + 5) :: S) (mh b h0 σ) :=
  Z_st (N := 4) (f := fun k => zI (σ (710 + (k : Int)))) hd (mh_get (j := 5) (by decide)) (by decide) hi (by rw [mh_st5 hi]; exact kk)
theorem Zm_ld6 {i : Int} (hd : decode M.code pc = .ok (.iaload, 1)) (hi : 0 ≤ i ∧ i < 4) (kk : At Ω M d r Q (pc + 1) L (.int (zI (σ (720 + i))) :: S) (mh b h0 σ)) : At Ω M d r Q pc L (.int (zI i) :: .ref (b + 6) :: S) (mh b h0 σ) :=
  Z_ld (j := 0) (N := 4) (f := fun k => zI (σ (720 + (k : Int)))) hd (mh_get (j := 6) (by decide)) ⟨_, rfl⟩ (by decide) hi (by show zI (σ _) = _; rw [show (720 + (i.toNat : Int)) = 720 + i by omega]) kk
theorem Zm_st6 {i v : Int} (hd : decode M.code pc = .ok (.iastore, 1)) (hi : 0 ≤ i ∧ i < 4) (kk : At Ω M d r Q (pc + 1) L S (mh b h0 (us σ (720 + i) v))) : At Ω M d r Q pc L (.int (zI v) :: .int (zI i) :: .ref (b + 6) :: S) (mh b h0 σ) :=
  Z_st (N := 4) (f := fun k => zI (σ (720 + (k : Int)))) hd (mh_get (j := 6) (by decide)) (by decide) hi (by rw [mh_st6 hi]; exact kk)
theorem Zm_ld7 {i : Int} (hd : decode M.code pc = .ok (.iaload, 1)) (hi : 0 ≤ i ∧ i < 10) (kk : At Ω M d r Q (pc + 1) L (.int (zI (σ (730 + i))) :: S) (mh b h0 σ)) : At Ω M d r Q pc L (.int (zI i) :: .ref (b + 7) :: S) (mh b h0 σ) :=
  Z_ld (j := 0) (N := 10) (f := fun k => zI (σ (730 + (k : Int)))) hd (mh_get (j := 7) (by decide)) ⟨_, rfl⟩ (by decide) hi (by show zI (σ _) = _; rw [show (730 + (i.toNat : Int)) = 730 + i by omega]) kk
theorem Zm_st7 {i v : Int} (hd : decode M.code pc = .ok (.iastore, 1)) (hi : 0 ≤ i ∧ i < 10) (kk : At Ω M d r Q (pc + 1) L S (mh b h0 (us σ (730 + i) v))) : At Ω M d r Q pc L (.int (zI v) :: .int (zI i) :: .ref (b + 7) :: S) (mh b h0 σ) :=
  Z_st (N := 10) (f := fun k => zI (σ (730 + (k : Int)))) hd (mh_get (j := 7) (by decide)) (by decide) hi (by rw [mh_st7 hi]; exact kk)
theorem Zm_pf2 {i : Nat} {v : Int} (hd : decode M.code pc = .ok (.putfield i, 3)) (hp : PF M.y.cls i 14 2 .int false) (kk : At Ω M d r Q (pc + 3) L S (mh b h0 (us σ 700 v))) : At Ω M d r Q pc L (.int (zI v) :: .ref b :: S) (mh b h0 σ) :=
  R_putfield hd hp mh_get0 rfl rfl rfl (Eq.mpr (congrArg (At Ω M d r Q (pc + 3) L S) (show hput (mh b h0 σ) b ((mo σ b 0).1, (mo σ b 0).2.1, (mo σ b 0).2.2.set 2 (.int (zI v))) = _ from mh_pf2)) kk)
theorem Zm_pf4 {i : Nat} {v : Int} (hd : decode M.code pc = .ok (.putfield i, 3)) (hp : PF M.y.cls i 14 4 .boolean false) (hv : 0 ≤ v ∧ v ≤ 1) (kk : At Ω M d r Q (pc + 3) L S (mh b h0 (us σ 701 v))) : At Ω M d r Q pc L (.int (zI v) :: .ref b :: S) (mh b h0 σ) :=
  R_putfield hd hp mh_get0 rfl (by rcases (by omega : v = 0 ∨ v = 1) with e | e <;> subst e <;> decide) (by rcases (by omega : v = 0 ∨ v = 1) with e | e <;> subst e <;> decide) (Eq.mpr (congrArg (At Ω M d r Q (pc + 3) L S) (show hput (mh b h0 σ) b ((mo σ b 0).1, (mo σ b 0).2.1, (mo σ b 0).2.2.set 4 (.int (zI v))) = _ from mh_pf4)) kk)
theorem Zm_pf6 {i : Nat} {v : Int} (hd : decode M.code pc = .ok (.putfield i, 3)) (hp : PF M.y.cls i 14 6 .int false) (kk : At Ω M d r Q (pc + 3) L S (mh b h0 (us σ 702 v))) : At Ω M d r Q pc L (.int (zI v) :: .ref b :: S) (mh b h0 σ) :=
  R_putfield hd hp mh_get0 rfl rfl rfl (Eq.mpr (congrArg (At Ω M d r Q (pc + 3) L S) (show hput (mh b h0 σ) b ((mo σ b 0).1, (mo σ b 0).2.1, (mo σ b 0).2.2.set 6 (.int (zI v))) = _ from mh_pf6)) kk)
theorem Zm_pf7 {i : Nat} {v : Int} (hd : decode M.code pc = .ok (.putfield i, 3)) (hp : PF M.y.cls i 14 7 .int false) (kk : At Ω M d r Q (pc + 3) L S (mh b h0 (us σ 703 v))) : At Ω M d r Q pc L (.int (zI v) :: .ref b :: S) (mh b h0 σ) :=
  R_putfield hd hp mh_get0 rfl rfl rfl (Eq.mpr (congrArg (At Ω M d r Q (pc + 3) L S) (show hput (mh b h0 σ) b ((mo σ b 0).1, (mo σ b 0).2.1, (mo σ b 0).2.2.set 7 (.int (zI v))) = _ from mh_pf7)) kk)
theorem Zm_pf10 {i : Nat} {v : Int} (hd : decode M.code pc = .ok (.putfield i, 3)) (hp : PF M.y.cls i 14 10 .int false) (kk : At Ω M d r Q (pc + 3) L S (mh b h0 (us σ 704 v))) : At Ω M d r Q pc L (.int (zI v) :: .ref b :: S) (mh b h0 σ) :=
  R_putfield hd hp mh_get0 rfl rfl rfl (Eq.mpr (congrArg (At Ω M d r Q (pc + 3) L S) (show hput (mh b h0 σ) b ((mo σ b 0).1, (mo σ b 0).2.1, (mo σ b 0).2.2.set 10 (.int (zI v))) = _ from mh_pf10)) kk)
theorem Zm_pf11 {i : Nat} {v : Int} (hd : decode M.code pc = .ok (.putfield i, 3)) (hp : PF M.y.cls i 14 11 .boolean false) (hv : 0 ≤ v ∧ v ≤ 1) (kk : At Ω M d r Q (pc + 3) L S (mh b h0 (us σ 705 v))) : At Ω M d r Q pc L (.int (zI v) :: .ref b :: S) (mh b h0 σ) :=
  R_putfield hd hp mh_get0 rfl (by rcases (by omega : v = 0 ∨ v = 1) with e | e <;> subst e <;> decide) (by rcases (by omega : v = 0 ∨ v = 1) with e | e <;> subst e <;> decide) (Eq.mpr (congrArg (At Ω M d r Q (pc + 3) L S) (show hput (mh b h0 σ) b ((mo σ b 0).1, (mo σ b 0).2.1, (mo σ b 0).2.2.set 11 (.int (zI v))) = _ from mh_pf11)) kk)
theorem z_joinS (L' : List (Option Value)) (τ : St) (pj : Nat) {L : List (Option Value)} (kj : At Ω M d r Q pj L' S (mh b h0 τ)) (k : (∀ (τ' : St) (L : List (Option Value)), τ' = τ → subL L' L → At Ω M d r Q pj L S (mh b h0 τ')) → At Ω M d r Q pc L S (mh b h0 σ)) : At Ω M d r Q pc L S (mh b h0 σ) :=
  k (fun τ' L e hs => e ▸ At.dropS L' hs kj)
theorem Zm_gf {i f : Nat} {v : Value} (hd : decode M.code pc = .ok (.getfield i, 3)) (hg : GF M.y.cls i 14 f) (hv : (mo σ b 0).2.2[f]? = some v) (kk : At Ω M d r Q (pc + 3) L (v :: S) (mh b h0 σ)) : At Ω M d r Q pc L (.ref b :: S) (mh b h0 σ) :=
  R_getfield hd hg mh_get0 rfl hv kk
end
theorem mQi {Q : Hp → Out → Prop} {b : Nat} {h0 : Hp} {σ τ : St} {x y : Int} (h : Q (mh b h0 σ) (.inl (some (.int (zI x))))) (hs : σ = τ) (hv : x = y) : Q (mh b h0 τ) (.inl (some (.int (zI y)))) := hs ▸ hv ▸ h
theorem mQl {Q : Hp → Out → Prop} {b : Nat} {h0 : Hp} {σ τ : St} {x y : Int} (h : Q (mh b h0 σ) (.inl (some (.long (zL x))))) (hs : σ = τ) (hv : x = y) : Q (mh b h0 τ) (.inl (some (.long (zL y)))) := hs ▸ hv ▸ h
theorem mQv {Q : Hp → Out → Prop} {b : Nat} {h0 : Hp} {σ τ : St} (h : Q (mh b h0 σ) (.inl none)) (hs : σ = τ) : Q (mh b h0 τ) (.inl none) := hs ▸ h

theorem mh_pf13 {b : Nat} {h0 : Hp} {σ : St} {v : Int} : hput (mh b h0 σ) b (1, 14, (mo σ b 0).2.2.set 13 (.long (zL v))) = mh b h0 (hs σ v) := by
  refine mh_put (j := 0) (by decide) ?_ (fun z hz hne => ?_)
  · have e := hs_v σ v
    simp only [mo, List.set]
    rw [e, hs_ne (by omega), hs_ne (by omega), hs_ne (by omega), hs_ne (by omega), hs_ne (by omega), hs_ne (by omega)]
  · unfold hs
    rw [mo_usA hz (by omega) (by omega) (by omega) (by omega) (by omega) (by omega) (by omega) (by omega) (by omega), mo_usA hz (by omega) (by omega) (by omega) (by omega) (by omega) (by omega) (by omega) (by omega) (by omega)]
theorem Zm_pf13 {Ω : Wd} {M : MD} {d r : Nat} {Q : Hp → Out → Prop} {pc : Nat} {L : List (Option Value)} {S : List Value} {b : Nat} {h0 : Hp} {σ : St} {i : Nat} {v : Int} (hd : decode M.code pc = .ok (.putfield i, 3)) (hp : PF M.y.cls i 14 13 .long false) (kk : At Ω M d r Q (pc + 3) L S (mh b h0 (hs σ v))) : At Ω M d r Q pc L (.long (zL v) :: .ref b :: S) (mh b h0 σ) :=
  R_putfield hd hp mh_get0 rfl rfl rfl (Eq.mpr (congrArg (At Ω M d r Q (pc + 3) L S) (show hput (mh b h0 σ) b ((mo σ b 0).1, (mo σ b 0).2.1, (mo σ b 0).2.2.set 13 (.long (zL v))) = _ from mh_pf13)) kk)
/-- the hash is read -/
theorem Zm_gh {Ω : Wd} {M : MD} {d r : Nat} {Q : Hp → Out → Prop} {pc : Nat} {L : List (Option Value)} {S : List Value} {b : Nat} {h0 : Hp} {σ : St} {i : Nat} {g : Int} (hd : decode M.code pc = .ok (.getfield i, 3)) (hg : GF M.y.cls i 14 13) (kk : At Ω M d r Q (pc + 3) L (.long (zL g) :: S) (mh b h0 (hs σ g))) : At Ω M d r Q pc L (.ref b :: S) (mh b h0 (hs σ g)) :=
  Zm_gf hd hg (by show some (Value.long (zL (hs σ g 706 + 4294967296 * hs σ g 707))) = _; rw [hs_v]) kk
