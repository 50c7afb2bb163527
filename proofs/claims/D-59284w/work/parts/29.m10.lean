/-! the model: means, bits -/
set_option maxRecDepth 100000
theorem R_f2d {Ω : Wd} {M : MD} {d r : Nat} {Q : Hp → Out → Prop} {pc : Nat} {L : List (Option Value)} {S : List Value} {h : Hp} {x : UInt32} (hd : decode M.code pc = .ok (.f2d, 1)) (hne : vf_n64 (FP.f2d x)) (k : At Ω M d r Q (pc + 1) L (.double (FP.f2d x) :: S) h) : At Ω M d r Q pc L (.float x :: S) h := by
  intro p e R s m args below meth c Qf C F H locs cells slots ls hR hl hc hs hL
  exact lv_f2d C.exec C.bytes hd hne (k p e R s m args below meth c Qf C F H locs cells slots ls hR hl hc hs hL)
def n64 (x : UInt64) : Bool := decide (x &&& 0x7fffffffffffffff ≤ 0x7ff0000000000000)
theorem n64_of {x : UInt64} (h : n64 x = true) : vf_n64 x := of_decide_eq_true (p := x &&& 0x7fffffffffffffff ≤ 0x7ff0000000000000) h
def n32 (x : UInt32) : Bool := decide (x &&& 0x7fffffff ≤ 0x7f800000)
theorem n32_of {x : UInt32} (h : n32 x = true) : vf_n32 x := of_decide_eq_true (p := x &&& 0x7fffffff ≤ 0x7f800000) h
/-- the sum's quarter -/
def meanV (s : Int) : UInt32 := FP.fdiv (FP.i2f (zI s)) 1082130432
theorem meanV_ok : ∀ s : Fin 161, n32 (meanV ((s.1 : Nat) : Int)) = true ∧ n64 (FP.f2d (meanV ((s.1 : Nat) : Int))) = true := by decide +kernel
def shareV (n a : Int) : UInt64 := if a = 0 then FP.dconst0 else FP.ddiv (FP.i2d (zI n)) (FP.i2d (zI a))
theorem shareV_ok : ∀ a : Fin 9, ∀ n : Fin 9, n.1 ≤ a.1 → a.1 ≠ 0 → n64 (FP.ddiv (FP.i2d (zI ((n.1 : Nat) : Int))) (FP.i2d (zI ((a.1 : Nat) : Int)))) = true := by decide +kernel
def btA : Nat → UInt64 → Int → Option (UInt64 × Int)
  | 0, _, _ => none
  | k + 1, v, e => if Op.cmpValue (FP.dcmp v 4611686018427387904) .l < 0 then some (v, e) else if n64 (FP.ddiv v 4611686018427387904) then btA k (FP.ddiv v 4611686018427387904) (e + 1) else none
def btB : Nat → UInt64 → Int → Option (UInt64 × Int)
  | 0, _, _ => none
  | k + 1, v, e => if 0 ≤ Op.cmpValue (FP.dcmp v FP.dconst1) .g then some (v, e) else if n64 (FP.dmul v 4611686018427387904) then btB k (FP.dmul v 4611686018427387904) (e + -1) else none
def oneC (x : UInt64) : Int := if Op.cmpValue (FP.dcmp x FP.dconst1) .l < 0 then 0 else 1
def btC : Nat → UInt64 → Int → Option Int
  | 0, _, z => some z
  | k + 1, x, z => if n64 (FP.dmul x 4611686018427387904) && n64 (FP.dsub (FP.dmul x 4611686018427387904) (FP.l2d (zL (oneC (FP.dmul x 4611686018427387904))))) then btC k (FP.dsub (FP.dmul x 4611686018427387904) (FP.l2d (zL (oneC (FP.dmul x 4611686018427387904))))) (2 * z + oneC (FP.dmul x 4611686018427387904)) else none
def btM : Option (UInt64 × Int) → Nat → Option Int
  | none, _ => none
  | some (v, e), w => if n64 (FP.dsub v FP.dconst1) then btC w (FP.dsub v FP.dconst1) e else none
def btL : Option (UInt64 × Int) → Nat → Option Int
  | none, _ => none
  | some (v, e), w => btM (btB 8 v e) w
/-- the bits of a number, if the loops end and no step is NaN -/
def bitsC (x : UInt64) (w : Nat) (e : Int) : Option Int := if Op.cmpValue (FP.dcmp x FP.dconst0) .l = 0 then some 0 else btL (btA 8 x e) w
theorem lp_bitA {Ω : Wd} {d r : Nat} {Q : Hp → Out → Prop} {h : Hp} {x : UInt64} {w bi v' e' : _} : ∀ (k : Nat) (v : UInt64) (e : Int), btA k v e = some (v', e') → At Ω M_X9_bitsOf d r Q 37 [some (.double x), none, some (.int w), some (.int bi), some (.double v'), none, some (.int (zI e')), none, none, none, none, none, none, none] [] h → At Ω M_X9_bitsOf d r Q 14 [some (.double x), none, some (.int w), some (.int bi), some (.double v), none, some (.int (zI e)), none, none, none, none, none, none, none] [] h := by
  intro k
  induction k with
  | zero => intro v e hk; cases hk
  | succ k ih =>
    intro v e hk hX
    unfold btA at hk
    by_cases hc : Op.cmpValue (FP.dcmp v 4611686018427387904) .l < 0
    · rw [if_pos hc] at hk
      obtain ⟨rfl, rfl⟩ : v = v' ∧ e = e' := by simpa using hk
      refine R_dload dX9_bitsOf_14 rfl ?_
      refine R_ldc2d dX9_bitsOf_16 q2795 ?_
      refine R_dcmp dX9_bitsOf_19 ?_
      refine R_if_lt dX9_bitsOf_20 (tgt := 37) (by decide) (fun c_20 => ?_) (fun c_20 => absurd c_20 (fun z => z hc))
      exact hX
    · rw [if_neg hc] at hk
      by_cases hn : n64 (FP.ddiv v 4611686018427387904) = true
      · rw [if_pos hn] at hk
        refine R_dload dX9_bitsOf_14 rfl ?_
        refine R_ldc2d dX9_bitsOf_16 q2795 ?_
        refine R_dcmp dX9_bitsOf_19 ?_
        refine R_if_lt dX9_bitsOf_20 (tgt := 37) (by decide) (fun c_20 => absurd c_20 (hc)) (fun c_20 => ?_)
        refine R_dload dX9_bitsOf_23 rfl ?_
        refine R_ldc2d dX9_bitsOf_25 q2795 ?_
        refine R_ddiv dX9_bitsOf_28 (n64_of hn) ?_
        refine R_dstore dX9_bitsOf_29 (by decide) rfl rfl ?_
        refine Z_iinc dX9_bitsOf_31 rfl (by decide) rfl rfl ?_
        refine R_goto dX9_bitsOf_34 (tgt := 14) (by decide) ?_
        exact ih _ _ hk hX
      · rw [if_neg hn] at hk
        cases hk
theorem lp_bitB {Ω : Wd} {d r : Nat} {Q : Hp → Out → Prop} {h : Hp} {x : UInt64} {w bi v' e' : _} : ∀ (k : Nat) (v : UInt64) (e : Int), btB k v e = some (v', e') → At Ω M_X9_bitsOf d r Q 58 [some (.double x), none, some (.int w), some (.int bi), some (.double v'), none, some (.int (zI e')), none, none, none, none, none, none, none] [] h → At Ω M_X9_bitsOf d r Q 37 [some (.double x), none, some (.int w), some (.int bi), some (.double v), none, some (.int (zI e)), none, none, none, none, none, none, none] [] h := by
  intro k
  induction k with
  | zero => intro v e hk; cases hk
  | succ k ih =>
    intro v e hk hX
    unfold btB at hk
    by_cases hc : 0 ≤ Op.cmpValue (FP.dcmp v FP.dconst1) .g
    · rw [if_pos hc] at hk
      obtain ⟨rfl, rfl⟩ : v = v' ∧ e = e' := by simpa using hk
      refine R_dload dX9_bitsOf_37 rfl ?_
      refine R_dconst_1 dX9_bitsOf_39 ?_
      refine R_dcmp dX9_bitsOf_40 ?_
      refine R_if_ge dX9_bitsOf_41 (tgt := 58) (by decide) (fun c_41 => ?_) (fun c_41 => absurd c_41 (fun z => z hc))
      exact hX
    · rw [if_neg hc] at hk
      by_cases hn : n64 (FP.dmul v 4611686018427387904) = true
      · rw [if_pos hn] at hk
        refine R_dload dX9_bitsOf_37 rfl ?_
        refine R_dconst_1 dX9_bitsOf_39 ?_
        refine R_dcmp dX9_bitsOf_40 ?_
        refine R_if_ge dX9_bitsOf_41 (tgt := 58) (by decide) (fun c_41 => absurd c_41 (hc)) (fun c_41 => ?_)
        refine R_dload dX9_bitsOf_44 rfl ?_
        refine R_ldc2d dX9_bitsOf_46 q2795 ?_
        refine R_dmul dX9_bitsOf_49 (n64_of hn) ?_
        refine R_dstore dX9_bitsOf_50 (by decide) rfl rfl ?_
        refine Z_iinc dX9_bitsOf_52 rfl (by decide) rfl rfl ?_
        refine R_goto dX9_bitsOf_55 (tgt := 37) (by decide) ?_
        exact ih _ _ hk hX
      · rw [if_neg hn] at hk
        cases hk
theorem lp_bitC {Ω : Wd} {d r : Nat} {Q : Hp → Out → Prop} {h : Hp} {w : Nat} {z' : Int} (hw : w < 1000) (hQ : Q h (.inl (some (.long (zL z'))))) : ∀ (k i : Nat) (x : UInt64) (z : Int), i + k = w → btC k x z = some z' → At Ω M_X9_bitsOf d r Q 72 [none, none, some (.int (zI w)), none, none, none, none, some (.double x), none, some (.long (zL z)), none, some (.int (zI (i : Int))), none, none] [] h := by
  intro k
  induction k with
  | zero =>
    intro i x z hi hk
    obtain rfl : z = z' := by simpa [btC] using hk
    refine R_iload dX9_bitsOf_72 rfl ?_
    refine R_iload_n dX9_bitsOf_74 rfl rfl ?_
    refine Z_icmp_ge dX9_bitsOf_75 (by first | exact hI.1 _ | assumption | exact hI1.1 _ | exact hI2.1 _ | exact ⟨by omega, by omega⟩) (by first | exact hI.1 _ | assumption | exact hI1.1 _ | exact hI2.1 _ | exact ⟨by omega, by omega⟩) (tgt := 125) (by decide) (fun c_75 => ?_) (fun c_75 => absurd c_75 (by omega))
    refine R_lload dX9_bitsOf_125 rfl ?_
    refine Z_retL dX9_bitsOf_127 rfl ?_
    exact hQ
  | succ k ih =>
    intro i x z hi hk
    unfold btC at hk
    by_cases hn : (n64 (FP.dmul x 4611686018427387904) && n64 (FP.dsub (FP.dmul x 4611686018427387904) (FP.l2d (zL (oneC (FP.dmul x 4611686018427387904)))))) = true
    · rw [if_pos hn] at hk
      obtain ⟨n1, n2⟩ := Bool.and_eq_true_iff.mp hn
      have hL : At Ω M_X9_bitsOf d r Q 98 [none, none, some (.int (zI w)), none, none, none, none, some (.double (FP.dmul x 4611686018427387904)), none, some (.long (zL z)), none, some (.int (zI (i : Int))), none, none] [.long (zL (oneC (FP.dmul x 4611686018427387904)))] h := by
        refine R_lstore dX9_bitsOf_98 (by decide) rfl rfl ?_
        refine R_dload dX9_bitsOf_100 rfl ?_
        refine R_lload dX9_bitsOf_102 rfl ?_
        refine R_l2d dX9_bitsOf_104 ?_
        refine R_dsub dX9_bitsOf_105 (n64_of n2) ?_
        refine R_dstore dX9_bitsOf_106 (by decide) rfl rfl ?_
        refine R_ldc2 dX9_bitsOf_108 (v := zL 2) q2796 ?_
        refine R_lload dX9_bitsOf_111 rfl ?_
        refine Z_lmul dX9_bitsOf_113 ?_
        refine R_lload dX9_bitsOf_114 rfl ?_
        refine Z_ladd dX9_bitsOf_116 ?_
        refine R_lstore dX9_bitsOf_117 (by decide) rfl rfl ?_
        refine Z_iinc dX9_bitsOf_119 rfl (by decide) rfl rfl ?_
        refine R_goto dX9_bitsOf_122 (tgt := 72) (by decide) ?_
        exact At.dropS [none, none, some (.int (zI w)), none, none, none, none, some (.double _), none, some (.long (zL _)), none, some (.int (zI ((i + 1 : Nat) : Int))), none, none] ⟨rfl, rfl, rfl, rfl, trivial⟩ (ih (i + 1) _ _ (by omega) hk)
      refine R_iload dX9_bitsOf_72 rfl ?_
      refine R_iload_n dX9_bitsOf_74 rfl rfl ?_
      refine Z_icmp_ge dX9_bitsOf_75 (by first | exact hI.1 _ | assumption | exact hI1.1 _ | exact hI2.1 _ | exact ⟨by omega, by omega⟩) (by first | exact hI.1 _ | assumption | exact hI1.1 _ | exact hI2.1 _ | exact ⟨by omega, by omega⟩) (tgt := 125) (by decide) (fun c_75 => absurd c_75 (by omega)) (fun c_75 => ?_)
      refine R_dload dX9_bitsOf_78 rfl ?_
      refine R_ldc2d dX9_bitsOf_80 q2795 ?_
      refine R_dmul dX9_bitsOf_83 (n64_of n1) ?_
      refine R_dstore dX9_bitsOf_84 (by decide) rfl rfl ?_
      refine R_dload dX9_bitsOf_86 rfl ?_
      refine R_dconst_1 dX9_bitsOf_88 ?_
      refine R_dcmp dX9_bitsOf_89 ?_
      refine R_if_lt dX9_bitsOf_90 (tgt := 97) (by decide) (fun c_90 => ?_) (fun c_90 => ?_)
      · skip
        refine R_lconst dX9_bitsOf_97 (v := zL 0) rfl ?_
        first | (rw [show oneC (FP.dmul x 4611686018427387904) = 0 from if_pos c_90] at hL; exact hL) | (rw [show oneC (FP.dmul x 4611686018427387904) = 1 from if_neg c_90] at hL; exact hL)
      · skip
        refine R_lconst dX9_bitsOf_93 (v := zL 1) rfl ?_
        refine R_goto dX9_bitsOf_94 (tgt := 98) (by decide) ?_
        first | (rw [show oneC (FP.dmul x 4611686018427387904) = 0 from if_pos c_90] at hL; exact hL) | (rw [show oneC (FP.dmul x 4611686018427387904) = 1 from if_neg c_90] at hL; exact hL)
    · rw [if_neg hn] at hk
      cases hk
theorem bt_w58 {Ω : Wd} {d r : Nat} {Q : Hp → Out → Prop} {h : Hp} {x v2 : UInt64} {w : Nat} {e2 z : Int} {bi : Int32} (hw : w < 1000) (hE : rg e2) (hn : n64 (FP.dsub v2 FP.dconst1) = true) (hk : btC w (FP.dsub v2 FP.dconst1) e2 = some z) (hQ : Q h (.inl (some (.long (zL z))))) : At Ω M_X9_bitsOf d r Q 58 [some (.double x), none, some (.int (zI w)), some (.int bi), some (.double v2), none, some (.int (zI e2)), none, none, none, none, none, none, none] [] h := by
  refine R_dload dX9_bitsOf_58 rfl ?_
  refine R_dconst_1 dX9_bitsOf_60 ?_
  refine R_dsub dX9_bitsOf_61 (n64_of hn) ?_
  refine R_dstore dX9_bitsOf_62 (by decide) rfl rfl ?_
  refine R_iload dX9_bitsOf_64 rfl ?_
  refine Z_i2l dX9_bitsOf_66 (by first | exact hI.1 _ | assumption | exact hI1.1 _ | exact hI2.1 _ | exact ⟨by omega, by omega⟩) ?_
  refine R_lstore dX9_bitsOf_67 (by decide) rfl rfl ?_
  refine R_iconst dX9_bitsOf_69 (v := zI (0)) rfl ?_
  refine R_istore dX9_bitsOf_70 (by decide) rfl rfl ?_
  exact At.dropS [none, none, some (.int (zI w)), none, none, none, none, some (.double _), none, some (.long (zL _)), none, some (.int (zI ((0 : Nat) : Int))), none, none] ⟨rfl, rfl, rfl, rfl, trivial⟩ (lp_bitC hw hQ w 0 _ _ (Nat.zero_add _) hk)
theorem sp_X9_bitsOf {Ω : Wd} {d r : Nat} {Q : Hp → Out → Prop} {h : Hp} {x : UInt64} {w : Nat} {e z : Int} (hw : w < 1000) (he : -100000 ≤ e ∧ e ≤ 100000) (hk : bitsC x w e = some z) (hQ : Q h (.inl (some (.long (zL z))))) : Ok Ω M_X9_bitsOf d r [.double x, .int (zI w), .int (zI e)] h Q := by
  refine Ok.of (by decide) rfl (Nat.le_of_ble_eq_true rfl) rfl ?_
  unfold bitsC at hk
  by_cases h0 : Op.cmpValue (FP.dcmp x FP.dconst0) .l = 0
  · rw [if_pos h0] at hk
    obtain rfl : 0 = z := by simpa using hk
    refine R_dload_n dX9_bitsOf_0 rfl rfl ?_
    refine R_dconst_0 dX9_bitsOf_1 ?_
    refine R_dcmp dX9_bitsOf_2 ?_
    refine R_if_ne dX9_bitsOf_3 (tgt := 8) (by decide) (fun c_3 => absurd c_3 (fun y => y h0)) (fun c_3 => ?_)
    refine R_lconst dX9_bitsOf_6 (v := zL 0) rfl ?_
    refine Z_retL dX9_bitsOf_7 rfl ?_
    exact hQ
  · rw [if_neg h0] at hk
    cases hA : btA 8 x e with
    | none => rw [hA] at hk; cases hk
    | some p =>
      obtain ⟨v1, e1⟩ := p
      rw [hA] at hk
      cases hB : btB 8 v1 e1 with
      | none => rw [btL, hB] at hk; cases hk
      | some p2 =>
        obtain ⟨v2, e2⟩ := p2
        rw [btL, hB] at hk
        rw [btM] at hk
        by_cases hn : n64 (FP.dsub v2 FP.dconst1) = true
        · rw [if_pos hn] at hk
          have hE : rg e2 := by
            have hAe : ∀ (k : Nat) (v : UInt64) (e : Int) (v' : UInt64) (e' : Int), btA k v e = some (v', e') → e ≤ e' ∧ e' ≤ e + k := by
              intro k
              induction k with
              | zero => intro v e v' e' hh; cases hh
              | succ k ih =>
                intro v e v' e' hh
                unfold btA at hh
                split at hh
                · obtain ⟨-, rfl⟩ : v = v' ∧ e = e' := by simpa using hh
                  omega
                · split at hh
                  · have := ih _ _ _ _ hh
                    omega
                  · cases hh
            have hBe : ∀ (k : Nat) (v : UInt64) (e : Int) (v' : UInt64) (e' : Int), btB k v e = some (v', e') → e' ≤ e ∧ e ≤ e' + k := by
              intro k
              induction k with
              | zero => intro v e v' e' hh; cases hh
              | succ k ih =>
                intro v e v' e' hh
                unfold btB at hh
                split at hh
                · obtain ⟨-, rfl⟩ : v = v' ∧ e = e' := by simpa using hh
                  omega
                · split at hh
                  · have := ih _ _ _ _ hh
                    omega
                  · cases hh
            have a1 := hAe _ _ _ _ _ hA
            have a2 := hBe _ _ _ _ _ hB
            exact ⟨by omega, by omega⟩
          refine R_dload_n dX9_bitsOf_0 rfl rfl ?_
          refine R_dconst_0 dX9_bitsOf_1 ?_
          refine R_dcmp dX9_bitsOf_2 ?_
          refine R_if_ne dX9_bitsOf_3 (tgt := 8) (by decide) (fun c_3 => ?_) (fun c_3 => absurd c_3 (h0))
          refine R_dload_n dX9_bitsOf_8 rfl rfl ?_
          refine R_dstore dX9_bitsOf_9 (by decide) rfl rfl ?_
          refine R_iload_n dX9_bitsOf_11 rfl rfl ?_
          refine R_istore dX9_bitsOf_12 (by decide) rfl rfl ?_
          refine lp_bitA 8 _ _ hA (lp_bitB 8 _ _ hB ?_)
          exact bt_w58 hw hE hn hk hQ
        · rw [if_neg hn] at hk
          cases hk

/-- the means, as their bits -/
noncomputable def meanF (σ : St) : UInt32 := hide (meanV (loadF σ 0 + loadF σ 1 + loadF σ 2 + loadF σ 3))
theorem meanF_def (σ : St) : meanF σ = FP.fdiv (FP.i2f (zI (loadF σ 0 + loadF σ 1 + loadF σ 2 + loadF σ 3))) 1082130432 := hide_eq _
def dnS (σ : St) : Nat → Int
  | 0 => 0
  | n + 1 => dnS σ n + if σ (118 + 6 * (n : Int) + 4) = 2 then 1 else 0
theorem dnS_bd (σ : St) : ∀ n : Nat, 0 ≤ dnS σ n ∧ dnS σ n ≤ n
  | 0 => by simp [dnS]
  | n + 1 => by
    have := dnS_bd σ n
    unfold dnS
    split <;> omega
noncomputable def shareF (σ : St) : UInt64 := hide (shareV (dnS σ (σ 117).toNat) (σ 117))
theorem shareF_def (σ : St) : shareF σ = if σ 117 = 0 then FP.dconst0 else FP.ddiv (FP.i2d (zI (dnS σ (σ 117).toNat))) (FP.i2d (zI (σ 117))) := hide_eq _
theorem meanV_at {s : Int} (h : 0 ≤ s ∧ s ≤ 160) : n32 (meanV s) = true ∧ n64 (FP.f2d (meanV s)) = true := by
  obtain ⟨m, rfl⟩ : ∃ m : Nat, s = m := ⟨s.toNat, by omega⟩
  exact meanV_ok ⟨m, by omega⟩

theorem sp_X9_mean {Ω : Wd} {d r : Nat} {Q : Hp → Out → Prop} {b : Nat} {h0 : Hp} {σ : St} (hI : MI σ) (hQ : Q (mh b h0 (σ)) (.inl (some (.float (meanF σ))))) : Ok Ω M_X9_mean (d + 2) r [.ref b] (mh b h0 (σ)) Q := by
  refine Ok.of (by decide) rfl (Nat.le_of_ble_eq_true rfl) rfl ?_
  rw [meanF_def] at hQ
  have l0 := loadF_bd hI 0
  have l1 := loadF_bd hI 1
  have l2 := loadF_bd hI 2
  have l3 := loadF_bd hI 3
  refine R_aload_n dX9_mean_0 rfl rfl rfl ?_
  refine R_iconst dX9_mean_1 (v := zI (0)) rfl ?_
  refine R_cV1 0 dX9_mean_2 rfl cv_X9_94 mh_get0 rfl rfl (Nat.le_of_ble_eq_true rfl) (Nat.zero_le _) (sp_X9_load (by first | assumption | exact hI.1 _ | exact hI1.1 _ | exact hI2.1 _ | omega | (refine ⟨?_, ?_⟩ <;> omega)) (by first | assumption | exact hI.1 _ | exact hI1.1 _ | exact hI2.1 _ | omega | (refine ⟨?_, ?_⟩ <;> omega)) (kq.v ?_))
  refine R_aload_n dX9_mean_5 rfl rfl rfl ?_
  refine R_iconst dX9_mean_6 (v := zI (1)) rfl ?_
  refine R_cV1 0 dX9_mean_7 rfl cv_X9_94 mh_get0 rfl rfl (Nat.le_of_ble_eq_true rfl) (Nat.zero_le _) (sp_X9_load (by first | assumption | exact hI.1 _ | exact hI1.1 _ | exact hI2.1 _ | omega | (refine ⟨?_, ?_⟩ <;> omega)) (by first | assumption | exact hI.1 _ | exact hI1.1 _ | exact hI2.1 _ | omega | (refine ⟨?_, ?_⟩ <;> omega)) (kq.v ?_))
  refine Z_iadd dX9_mean_10 ?_
  refine R_aload_n dX9_mean_11 rfl rfl rfl ?_
  refine R_iconst dX9_mean_12 (v := zI (2)) rfl ?_
  refine R_cV1 0 dX9_mean_13 rfl cv_X9_94 mh_get0 rfl rfl (Nat.le_of_ble_eq_true rfl) (Nat.zero_le _) (sp_X9_load (by first | assumption | exact hI.1 _ | exact hI1.1 _ | exact hI2.1 _ | omega | (refine ⟨?_, ?_⟩ <;> omega)) (by first | assumption | exact hI.1 _ | exact hI1.1 _ | exact hI2.1 _ | omega | (refine ⟨?_, ?_⟩ <;> omega)) (kq.v ?_))
  refine Z_iadd dX9_mean_16 ?_
  refine R_aload_n dX9_mean_17 rfl rfl rfl ?_
  refine R_iconst dX9_mean_18 (v := zI (3)) rfl ?_
  refine R_cV1 0 dX9_mean_19 rfl cv_X9_94 mh_get0 rfl rfl (Nat.le_of_ble_eq_true rfl) (Nat.zero_le _) (sp_X9_load (by first | assumption | exact hI.1 _ | exact hI1.1 _ | exact hI2.1 _ | omega | (refine ⟨?_, ?_⟩ <;> omega)) (by first | assumption | exact hI.1 _ | exact hI1.1 _ | exact hI2.1 _ | omega | (refine ⟨?_, ?_⟩ <;> omega)) (kq.v ?_))
  refine Z_iadd dX9_mean_22 ?_
  refine R_i2f dX9_mean_23 ?_
  refine R_ldcf dX9_mean_24 q2769 ?_
  refine R_fdiv dX9_mean_26 (n32_of (meanV_at (by omega)).1) ?_
  refine Z_retF dX9_mean_27 rfl ?_
  exact hQ

theorem lp_share {Ω : Wd} {d r : Nat} {Q : Hp → Out → Prop} {b : Nat} {h0 : Hp} {σ : St}  (hI : MI σ) : ∀ (k n : Nat), n + k = (σ 117).toNat → At Ω M_X9_share (d + 1) r Q 39 [some (.ref b), some (.int (zI (dnS σ (σ 117).toNat))), none] [] (mh b h0 (σ)) → At Ω M_X9_share (d + 1) r Q 4 [some (.ref b), some (.int (zI (dnS σ n))), some (.int (zI (((n : Nat) : Int))))] [] (mh b h0 (σ)) := by
  intro k
  induction k with
  | zero =>
    intro n hn hX
    have hnN : n = (σ 117).toNat := by omega
    rw [hnN]
    have h117 := hI.2.2.1
    refine R_iload_n dX9_share_4 rfl rfl ?_
    refine R_aload_n dX9_share_5 rfl rfl rfl ?_
    refine Zm_gf dX9_share_6 gf_X9_7 rfl ?_
    refine R_bipush dX9_share_9 (v := zI (117)) rfl ?_
    refine Zm_ld1 dX9_share_11 (by omega) ?_
    refine Z_icmp_ge dX9_share_12 (by first | exact hI.1 _ | assumption | exact hI1.1 _ | exact hI2.1 _ | exact ⟨by omega, by omega⟩) (by first | exact hI.1 _ | assumption | exact hI1.1 _ | exact hI2.1 _ | exact ⟨by omega, by omega⟩) (tgt := 39) (by decide) (fun c_12 => ?_) (fun c_12 => absurd c_12 (by omega))
    exact At.dropS (L' := [some (.ref b), some (.int (zI (dnS σ (σ 117).toNat))), none]) ⟨rfl, rfl, trivial⟩ hX
  | succ k ih =>
    intro n hn hX
    have h117 := hI.2.2.1
    refine R_iload_n dX9_share_4 rfl rfl ?_
    refine R_aload_n dX9_share_5 rfl rfl rfl ?_
    refine Zm_gf dX9_share_6 gf_X9_7 rfl ?_
    refine R_bipush dX9_share_9 (v := zI (117)) rfl ?_
    refine Zm_ld1 dX9_share_11 (by omega) ?_
    refine Z_icmp_ge dX9_share_12 (by first | exact hI.1 _ | assumption | exact hI1.1 _ | exact hI2.1 _ | exact ⟨by omega, by omega⟩) (by first | exact hI.1 _ | assumption | exact hI1.1 _ | exact hI2.1 _ | exact ⟨by omega, by omega⟩) (tgt := 39) (by decide) (fun c_12 => absurd c_12 (by omega)) (fun c_12 => ?_)
    refine R_iload_n dX9_share_15 rfl rfl ?_
    refine z_joinI (if σ (118 + 6 * ((n : Nat) : Int) + 4) = 2 then 1 else 0) 31 ?_ (fun jj_16 => ?_)
    · skip
      refine Z_iadd dX9_share_31 ?_
      refine R_istore_n dX9_share_32 rfl (by decide) rfl rfl ?_
      refine Z_iinc dX9_share_33 rfl (by decide) rfl rfl ?_
      refine R_goto dX9_share_36 (tgt := 4) (by decide) ?_
      exact At.dropS (L' := [some (.ref b), some (.int (zI (dnS σ (n + 1)))), some (.int (zI ((((n + 1) : Nat) : Int))))]) ⟨rfl, rfl, rfl, trivial⟩ (ih (n + 1) (by omega) hX)
    · skip
      refine R_aload_n dX9_share_16 rfl rfl rfl ?_
      refine R_iload_n dX9_share_17 rfl rfl ?_
      refine R_iconst dX9_share_18 (v := zI (4)) rfl ?_
      refine R_cV2 0 dX9_share_19 rfl cv_X9_49 mh_get0 rfl rfl (Nat.le_of_ble_eq_true rfl) (Nat.zero_le _) (sp_X9_has (by first | assumption | exact hI.1 _ | exact hI1.1 _ | exact hI2.1 _ | omega | (refine ⟨?_, ?_⟩ <;> omega)) (kq.v ?_))
      refine R_iconst dX9_share_22 (v := zI (2)) rfl ?_
      refine Z_icmp_ne dX9_share_23 (by first | exact hI.1 _ | assumption | exact hI1.1 _ | exact hI2.1 _ | exact ⟨by omega, by omega⟩) (by first | exact hI.1 _ | assumption | exact hI1.1 _ | exact hI2.1 _ | exact ⟨by omega, by omega⟩) (tgt := 30) (by decide) (fun c_23 => ?_) (fun c_23 => ?_)
      · skip
        refine R_iconst dX9_share_30 (v := zI (0)) rfl ?_
        exact jj_16 _ (by first | rfl | (simp [*]; done) | omega | grind)
      · skip
        refine R_iconst dX9_share_26 (v := zI (1)) rfl ?_
        refine R_goto dX9_share_27 (tgt := 31) (by decide) ?_
        exact jj_16 _ (by first | rfl | (simp [*]; done) | omega | grind)

theorem sp_X9_share {Ω : Wd} {d r : Nat} {Q : Hp → Out → Prop} {b : Nat} {h0 : Hp} {σ : St} (hI : MI σ) (hQ : Q (mh b h0 (σ)) (.inl (some (.double (shareF σ))))) : Ok Ω M_X9_share (d + 1) r [.ref b] (mh b h0 (σ)) Q := by
  refine Ok.of (by decide) rfl (Nat.le_of_ble_eq_true rfl) rfl ?_
  rw [shareF_def] at hQ
  have h117 := hI.2.2.1
  have hd := dnS_bd σ (σ 117).toNat
  refine R_iconst dX9_share_0 (v := zI (0)) rfl ?_
  refine R_istore_n dX9_share_1 rfl (by decide) rfl rfl ?_
  refine R_iconst dX9_share_2 (v := zI (0)) rfl ?_
  refine R_istore_n dX9_share_3 rfl (by decide) rfl rfl ?_
  refine At.dropS (L' := [some (.ref b), some (.int (zI (dnS σ 0))), some (.int (zI (((0 : Nat) : Int))))]) ⟨rfl, rfl, rfl, trivial⟩ (lp_share hI _ 0 (Nat.zero_add _) ?_)
  refine R_aload_n dX9_share_39 rfl rfl rfl ?_
  refine Zm_gf dX9_share_40 gf_X9_7 rfl ?_
  refine R_bipush dX9_share_43 (v := zI (117)) rfl ?_
  refine Zm_ld1 dX9_share_45 (by omega) ?_
  refine Z_if_ne dX9_share_46 (by first | exact hI.1 _ | assumption | exact hI1.1 _ | exact hI2.1 _ | exact ⟨by omega, by omega⟩) (tgt := 53) (by decide) (fun c_46 => ?_) (fun c_46 => ?_)
  · skip
    refine R_iload_n dX9_share_53 rfl rfl ?_
    refine R_i2d dX9_share_54 ?_
    refine R_aload_n dX9_share_55 rfl rfl rfl ?_
    refine Zm_gf dX9_share_56 gf_X9_7 rfl ?_
    refine R_bipush dX9_share_59 (v := zI (117)) rfl ?_
    refine Zm_ld1 dX9_share_61 (by omega) ?_
    refine R_i2d dX9_share_62 ?_
    refine R_ddiv dX9_share_63 (by obtain ⟨m, hm⟩ : ∃ m : Nat, dnS σ (σ 117).toNat = m := ⟨(dnS σ (σ 117).toNat).toNat, by omega⟩; obtain ⟨a, ha⟩ : ∃ a : Nat, σ 117 = a := ⟨(σ 117).toNat, by omega⟩; have e := shareV_ok ⟨a, by omega⟩ ⟨m, by omega⟩ (by show m ≤ a; omega) (by show a ≠ 0; omega); rw [hm, ha]; exact n64_of e) ?_
    refine Z_retD dX9_share_64 rfl ?_
    first | (rw [if_pos c_46] at hQ; exact hQ) | (rw [if_neg c_46] at hQ; exact hQ)
  · skip
    refine R_dconst_0 dX9_share_49 ?_
    refine R_goto dX9_share_50 (tgt := 64) (by decide) ?_
    refine Z_retD dX9_share_64 rfl ?_
    first | (rw [if_pos c_46] at hQ; exact hQ) | (rw [if_neg c_46] at hQ; exact hQ)

theorem sp_X9_meanLoad {Ω : Wd} {d r : Nat} {Q : Hp → Out → Prop} {b : Nat} {h0 : Hp} {σ : St} {τ : St} (hτ : us σ 703 0 = τ) (hI : MI τ) (hQ : Q (mh b h0 τ) (.inl (some (.float (meanF τ))))) : Ok Ω M_X9_meanLoad (d + 3) r [.ref b] (mh b h0 (σ)) Q := by
  refine Ok.of (by decide) rfl (Nat.le_of_ble_eq_true rfl) rfl ?_
  refine R_aload_n dX9_meanLoad_0 rfl rfl rfl ?_
  refine R_iconst dX9_meanLoad_1 (v := zI (0)) rfl ?_
  refine Zm_pf7 dX9_meanLoad_2 pf_X9_38 ?_
  rw [hτ]
  refine R_aload_n dX9_meanLoad_5 rfl rfl rfl ?_
  refine R_cV0 0 dX9_meanLoad_6 rfl cv_X9_196 mh_get0 rfl rfl (Nat.le_of_ble_eq_true rfl) (Nat.zero_le _) (sp_X9_mean (by first | assumption | exact hI.1 _ | exact hI1.1 _ | exact hI2.1 _ | omega | (refine ⟨?_, ?_⟩ <;> omega)) (kq.v ?_))
  refine Z_retF dX9_meanLoad_9 rfl ?_
  exact hQ

theorem sp_X9_deliveredShare {Ω : Wd} {d r : Nat} {Q : Hp → Out → Prop} {b : Nat} {h0 : Hp} {σ : St} {τ : St} (hτ : us σ 703 0 = τ) (hI : MI τ) (hQ : Q (mh b h0 τ) (.inl (some (.double (shareF τ))))) : Ok Ω M_X9_deliveredShare (d + 2) r [.ref b] (mh b h0 (σ)) Q := by
  refine Ok.of (by decide) rfl (Nat.le_of_ble_eq_true rfl) rfl ?_
  refine R_aload_n dX9_deliveredShare_0 rfl rfl rfl ?_
  refine R_iconst dX9_deliveredShare_1 (v := zI (0)) rfl ?_
  refine Zm_pf7 dX9_deliveredShare_2 pf_X9_38 ?_
  rw [hτ]
  refine R_aload_n dX9_deliveredShare_5 rfl rfl rfl ?_
  refine R_cV0 0 dX9_deliveredShare_6 rfl cv_X9_200 mh_get0 rfl rfl (Nat.le_of_ble_eq_true rfl) (Nat.zero_le _) (sp_X9_share (by first | assumption | exact hI.1 _ | exact hI1.1 _ | exact hI2.1 _ | omega | (refine ⟨?_, ?_⟩ <;> omega)) (kq.v ?_))
  refine Z_retD dX9_deliveredShare_9 rfl ?_
  exact hQ

theorem sp_X9_whyNoOrder {Ω : Wd} {d r : Nat} {Q : Hp → Out → Prop} {b : Nat} {h0 : Hp} {σ : St} {q k : Int} {τ : St} (hτ : us σ 703 0 = τ) (hI : MI τ) (hq : rg q) (hk : rg k) (h1 : ¬ ((0 ≤ q ∧ q ≤ 3) ∧ (0 ≤ k ∧ k < τ 0)) → Q (mh b h0 (us τ 703 1)) (.inl (some (.int (zI 0))))) (h2 : ((0 ≤ q ∧ q ≤ 3) ∧ (0 ≤ k ∧ k < τ 0)) → Q (mh b h0 τ) (.inl (some (.int (zI (noOrdF τ q k)))))) : Ok Ω M_X9_whyNoOrder (d + 5) r [.ref b, .int (zI q), .int (zI k)] (mh b h0 (σ)) Q := by
  refine Ok.of (by decide) rfl (Nat.le_of_ble_eq_true rfl) rfl ?_
  refine R_aload_n dX9_whyNoOrder_0 rfl rfl rfl ?_
  refine R_iconst dX9_whyNoOrder_1 (v := zI (0)) rfl ?_
  refine Zm_pf7 dX9_whyNoOrder_2 pf_X9_38 ?_
  rw [hτ]
  refine R_iload_n dX9_whyNoOrder_5 rfl rfl ?_
  refine R_cS1 0 dX9_whyNoOrder_6 rfl cs_X9_134 (Nat.le_of_ble_eq_true rfl) (Nat.zero_le _) (sp_X9_isCourier (by first | assumption | exact hI.1 _ | exact hI1.1 _ | exact hI2.1 _ | omega | (refine ⟨?_, ?_⟩ <;> omega)) (kq.v ?_))
  refine Z_if_eqB dX9_whyNoOrder_9 (tgt := 29) (by decide) (fun c_9 => ?_) (fun c_9 => ?_)
  · skip
    refine R_aload_n dX9_whyNoOrder_29 rfl rfl rfl ?_
    refine R_iconst dX9_whyNoOrder_30 (v := zI (1)) rfl ?_
    refine R_cV1 0 dX9_whyNoOrder_31 rfl cv_X9_122 mh_get0 rfl rfl (Nat.le_of_ble_eq_true rfl) (Nat.zero_le _) (sp_X9_throwing  (kq.v ?_))
    refine Z_retI dX9_whyNoOrder_34 (rf_i rfl) ?_
    first | (have z : (0 ≤ q ∧ q ≤ 3) ∧ (0 ≤ k ∧ k < τ 0) := (by omega); exact h2 z) | (have z : ¬ ((0 ≤ q ∧ q ≤ 3) ∧ (0 ≤ k ∧ k < τ 0)) := (by omega); exact h1 z)
  · skip
    have h00 := hI.2.1
    refine R_aload_n dX9_whyNoOrder_12 rfl rfl rfl ?_
    refine R_iload_n dX9_whyNoOrder_13 rfl rfl ?_
    refine R_cV1 0 dX9_whyNoOrder_14 rfl cv_X9_128 mh_get0 rfl rfl (Nat.le_of_ble_eq_true rfl) (Nat.zero_le _) (sp_X9_isStreet (by first | assumption | exact hI.1 _ | exact hI1.1 _ | exact hI2.1 _ | omega | (refine ⟨?_, ?_⟩ <;> omega)) (by first | assumption | exact hI.1 _ | exact hI1.1 _ | exact hI2.1 _ | omega | (refine ⟨?_, ?_⟩ <;> omega)) (kq.v ?_))
    refine Z_if_eqB dX9_whyNoOrder_17 (tgt := 29) (by decide) (fun c_17 => ?_) (fun c_17 => ?_)
    · skip
      refine R_aload_n dX9_whyNoOrder_29 rfl rfl rfl ?_
      refine R_iconst dX9_whyNoOrder_30 (v := zI (1)) rfl ?_
      refine R_cV1 0 dX9_whyNoOrder_31 rfl cv_X9_122 mh_get0 rfl rfl (Nat.le_of_ble_eq_true rfl) (Nat.zero_le _) (sp_X9_throwing  (kq.v ?_))
      refine Z_retI dX9_whyNoOrder_34 (rf_i rfl) ?_
      first | (have z : (0 ≤ q ∧ q ≤ 3) ∧ (0 ≤ k ∧ k < τ 0) := (by omega); exact h2 z) | (have z : ¬ ((0 ≤ q ∧ q ≤ 3) ∧ (0 ≤ k ∧ k < τ 0)) := (by omega); exact h1 z)
    · skip
      refine R_aload_n dX9_whyNoOrder_20 rfl rfl rfl ?_
      refine R_iload_n dX9_whyNoOrder_21 rfl rfl ?_
      refine R_iload_n dX9_whyNoOrder_22 rfl rfl ?_
      refine R_cV2 0 dX9_whyNoOrder_23 rfl cv_X9_140 mh_get0 rfl rfl (Nat.le_of_ble_eq_true rfl) (Nat.zero_le _) (sp_X9_noOrder (by first | assumption | exact hI.1 _ | exact hI1.1 _ | exact hI2.1 _ | omega | (refine ⟨?_, ?_⟩ <;> omega)) (by first | assumption | exact hI.1 _ | exact hI1.1 _ | exact hI2.1 _ | omega | (refine ⟨?_, ?_⟩ <;> omega)) (by first | assumption | exact hI.1 _ | exact hI1.1 _ | exact hI2.1 _ | omega | (refine ⟨?_, ?_⟩ <;> omega)) (kq.v ?_))
      refine R_goto dX9_whyNoOrder_26 (tgt := 34) (by decide) ?_
      refine Z_retI dX9_whyNoOrder_34 (rf_i rfl) ?_
      first | (have z : (0 ≤ q ∧ q ≤ 3) ∧ (0 ≤ k ∧ k < τ 0) := (by omega); exact h2 z) | (have z : ¬ ((0 ≤ q ∧ q ≤ 3) ∧ (0 ≤ k ∧ k < τ 0)) := (by omega); exact h1 z)

theorem sp_X9_wouldGo {Ω : Wd} {d r : Nat} {Q : Hp → Out → Prop} {b : Nat} {h0 : Hp} {σ : St} {q : Int} {τ : St} (hτ : us σ 703 0 = τ) (hI : MI τ) (hq : rg q) (hE : endS (f0S τ 4) 5) (h1 : ¬ (0 ≤ q ∧ q ≤ 3) → Q (mh b h0 (us (forF τ) 703 1)) (.inl (some (.int (zI 0))))) (h2 : (0 ≤ q ∧ q ≤ 3) → Q (mh b h0 (forF τ)) (.inl (some (.int (zI (forF τ (710 + q))))))) : Ok Ω M_X9_wouldGo (d + 4) r [.ref b, .int (zI q)] (mh b h0 (σ)) Q := by
  refine Ok.of (by decide) rfl (Nat.le_of_ble_eq_true rfl) rfl ?_
  refine R_aload_n dX9_wouldGo_0 rfl rfl rfl ?_
  refine R_iconst dX9_wouldGo_1 (v := zI (0)) rfl ?_
  refine Zm_pf7 dX9_wouldGo_2 pf_X9_38 ?_
  rw [hτ]
  refine R_aload_n dX9_wouldGo_5 rfl rfl rfl ?_
  refine R_cV0 0 dX9_wouldGo_6 rfl cv_X9_112 mh_get0 rfl rfl (Nat.le_of_ble_eq_true rfl) (Nat.zero_le _) (sp_X9_foretells (by first | assumption | exact hI.1 _ | exact hI1.1 _ | exact hI2.1 _ | omega | (refine ⟨?_, ?_⟩ <;> omega)) (by first | assumption | exact hI.1 _ | exact hI1.1 _ | exact hI2.1 _ | omega | (refine ⟨?_, ?_⟩ <;> omega)) (kq.n ?_))
  refine R_iload_n dX9_wouldGo_9 rfl rfl ?_
  refine R_cS1 0 dX9_wouldGo_10 rfl cs_X9_134 (Nat.le_of_ble_eq_true rfl) (Nat.zero_le _) (sp_X9_isCourier (by first | assumption | exact hI.1 _ | exact hI1.1 _ | exact hI2.1 _ | omega | (refine ⟨?_, ?_⟩ <;> omega)) (kq.v ?_))
  refine Z_if_eqB dX9_wouldGo_13 (tgt := 25) (by decide) (fun c_13 => ?_) (fun c_13 => ?_)
  · skip
    refine R_aload_n dX9_wouldGo_25 rfl rfl rfl ?_
    refine R_iconst dX9_wouldGo_26 (v := zI (1)) rfl ?_
    refine R_cV1 0 dX9_wouldGo_27 rfl cv_X9_122 mh_get0 rfl rfl (Nat.le_of_ble_eq_true rfl) (Nat.zero_le _) (sp_X9_throwing  (kq.v ?_))
    refine Z_retI dX9_wouldGo_30 (rf_i rfl) ?_
    first | (have z : 0 ≤ q ∧ q ≤ 3 := (by omega); exact h2 z) | (have z : ¬ (0 ≤ q ∧ q ≤ 3) := (by omega); exact h1 z)
  · skip
    refine R_aload_n dX9_wouldGo_16 rfl rfl rfl ?_
    refine Zm_gf dX9_wouldGo_17 gf_X9_22 rfl ?_
    refine R_iload_n dX9_wouldGo_20 rfl rfl ?_
    refine Zm_ld5 dX9_wouldGo_21 (by omega) ?_
    refine R_goto dX9_wouldGo_22 (tgt := 30) (by decide) ?_
    refine Z_retI dX9_wouldGo_30 (rf_i rfl) ?_
    first | (have z : 0 ≤ q ∧ q ≤ 3 := (by omega); exact h2 z) | (have z : ¬ (0 ≤ q ∧ q ≤ 3) := (by omega); exact h1 z)

theorem hs_MI {σ : St} (hI : MI σ) (h : Int) : MI (hs σ h) := MI_free (MI_free hI (by omega) (rg_of _)) (by omega) (rg_of _)

theorem sp_X9_mix {Ω : Wd} {d r : Nat} {Q : Hp → Out → Prop} {b : Nat} {h0 : Hp} {σ : St} {v g : Int} (hQ : Q (mh b h0 (hs σ (31 * g + v))) (.inl none)) : Ok Ω M_X9_mix d r [.ref b, .long (zL v)] (mh b h0 (hs σ g)) Q := by
  refine Ok.of (by decide) rfl (Nat.le_of_ble_eq_true rfl) rfl ?_
  refine R_aload_n dX9_mix_0 rfl rfl rfl ?_
  refine R_ldc2 dX9_mix_1 (v := zL 31) q2787 ?_
  refine R_aload_n dX9_mix_4 rfl rfl rfl ?_
  refine Zm_gh dX9_mix_5 gf_X9_210 ?_
  refine Z_lmul dX9_mix_8 ?_
  refine R_lload_n dX9_mix_9 rfl rfl ?_
  refine Z_ladd dX9_mix_10 ?_
  refine Zm_pf13 dX9_mix_11 pf_X9_210 ?_
  refine Z_retV dX9_mix_14 (rf_v rfl) ?_
  rw [hs_hs]
  exact hQ

theorem sp_X9_mixes {Ω : Wd} {d r : Nat} {Q : Hp → Out → Prop} {b : Nat} {h0 : Hp} {σ : St} {p : Prop} {g : Int} (hQ : Q (mh b h0 (hs σ (31 * g + b2i p))) (.inl none)) : Ok Ω M_X9_mixes (d + 1) r [.ref b, .int (zI (b2i p))] (mh b h0 (hs σ g)) Q := by
  refine Ok.of (by decide) rfl (Nat.le_of_ble_eq_true rfl) rfl ?_
  refine R_aload_n dX9_mixes_0 rfl rfl rfl ?_
  refine R_iload_n dX9_mixes_1 rfl rfl ?_
  refine Z_if_eqB dX9_mixes_2 (tgt := 9) (by decide) (fun c_2 => ?_) (fun c_2 => ?_)
  · skip
    refine R_lconst dX9_mixes_9 (v := zL 0) rfl ?_
    refine R_cV1 0 dX9_mixes_10 rfl cv_X9_214 mh_get0 rfl rfl (Nat.le_of_ble_eq_true rfl) (Nat.zero_le _) (sp_X9_mix  (kq.n ?_))
    refine Z_retV dX9_mixes_13 (rf_v rfl) ?_
    first | (rw [b2i_1 c_2] at hQ; exact hQ) | (rw [b2i_0 c_2] at hQ; exact hQ)
  · skip
    refine R_lconst dX9_mixes_5 (v := zL 1) rfl ?_
    refine R_goto dX9_mixes_6 (tgt := 10) (by decide) ?_
    refine R_cV1 0 dX9_mixes_10 rfl cv_X9_214 mh_get0 rfl rfl (Nat.le_of_ble_eq_true rfl) (Nat.zero_le _) (sp_X9_mix  (kq.n ?_))
    refine Z_retV dX9_mixes_13 (rf_v rfl) ?_
    first | (rw [b2i_1 c_2] at hQ; exact hQ) | (rw [b2i_0 c_2] at hQ; exact hQ)

theorem mb_all : ∀ s : Fin 161, (bitsC (FP.f2d (meanV ((s.1 : Nat) : Int))) 23 127).isSome = true := by decide +kernel
theorem sb_all : ∀ a : Fin 9, ∀ n : Fin 9, n.1 ≤ a.1 → (bitsC (shareV ((n.1 : Nat) : Int) ((a.1 : Nat) : Int)) 52 1023).isSome = true := by decide +kernel

