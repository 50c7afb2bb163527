/-! the JDK: small methods -/
set_option maxRecDepth 100000
def cmpI (x y : Int) : Int := if x < y then -1 else if x = y then 0 else 1
theorem sp_J12_compare {Ω : Wd} {d r : Nat} {Q : Hp → Out → Prop} {h : Hp} {x y : Int} (hx : rg x) (hy : rg y) (hQ : Q h (.inl (some (.int (zI (cmpI x y)))))) : Ok Ω M_J12_compare d r [.int (zI x), .int (zI y)] h Q := by
  refine Ok.of (by decide) rfl (Nat.le_of_ble_eq_true rfl) rfl ?_
  refine R_iload_n dJ12_compare_0 rfl rfl ?_
  refine R_iload_n dJ12_compare_1 rfl rfl ?_
  refine Z_icmp_ge dJ12_compare_2 (by first | exact hI.1 _ | assumption | exact hI1.1 _ | exact hI2.1 _ | exact ⟨by omega, by omega⟩) (by first | exact hI.1 _ | assumption | exact hI1.1 _ | exact hI2.1 _ | exact ⟨by omega, by omega⟩) (tgt := 9) (by decide) (fun c_2 => ?_) (fun c_2 => ?_)
  · skip
    refine R_iload_n dJ12_compare_9 rfl rfl ?_
    refine R_iload_n dJ12_compare_10 rfl rfl ?_
    refine Z_icmp_ne dJ12_compare_11 (by first | exact hI.1 _ | assumption | exact hI1.1 _ | exact hI2.1 _ | exact ⟨by omega, by omega⟩) (by first | exact hI.1 _ | assumption | exact hI1.1 _ | exact hI2.1 _ | exact ⟨by omega, by omega⟩) (tgt := 18) (by decide) (fun c_11 => ?_) (fun c_11 => ?_)
    · skip
      refine R_iconst dJ12_compare_18 (v := zI (1)) rfl ?_
      refine Z_retI dJ12_compare_19 (rf_i rfl) ?_
      unfold cmpI at hQ
      first | (rw [if_pos (by omega)] at hQ; exact hQ) | (rw [if_neg (by omega), if_pos (by omega)] at hQ; exact hQ) | (rw [if_neg (by omega), if_neg (by omega)] at hQ; exact hQ)
    · skip
      refine R_iconst dJ12_compare_14 (v := zI (0)) rfl ?_
      refine R_goto dJ12_compare_15 (tgt := 19) (by decide) ?_
      refine Z_retI dJ12_compare_19 (rf_i rfl) ?_
      unfold cmpI at hQ
      first | (rw [if_pos (by omega)] at hQ; exact hQ) | (rw [if_neg (by omega), if_pos (by omega)] at hQ; exact hQ) | (rw [if_neg (by omega), if_neg (by omega)] at hQ; exact hQ)
  · skip
    refine R_iconst dJ12_compare_5 (v := zI (-1)) rfl ?_
    refine R_goto dJ12_compare_6 (tgt := 19) (by decide) ?_
    refine Z_retI dJ12_compare_19 (rf_i rfl) ?_
    unfold cmpI at hQ
    first | (rw [if_pos (by omega)] at hQ; exact hQ) | (rw [if_neg (by omega), if_pos (by omega)] at hQ; exact hQ) | (rw [if_neg (by omega), if_neg (by omega)] at hQ; exact hQ)
theorem sp_J14_max {Ω : Wd} {d r : Nat} {Q : Hp → Out → Prop} {h : Hp} {x y : Int} (hx : rg x) (hy : rg y) (hQ : Q h (.inl (some (.int (zI (if x < y then y else x)))))) : Ok Ω M_J14_max d r [.int (zI x), .int (zI y)] h Q := by
  refine Ok.of (by decide) rfl (Nat.le_of_ble_eq_true rfl) rfl ?_
  refine R_iload_n dJ14_max_0 rfl rfl ?_
  refine R_iload_n dJ14_max_1 rfl rfl ?_
  refine Z_icmp_lt dJ14_max_2 (by first | exact hI.1 _ | assumption | exact hI1.1 _ | exact hI2.1 _ | exact ⟨by omega, by omega⟩) (by first | exact hI.1 _ | assumption | exact hI1.1 _ | exact hI2.1 _ | exact ⟨by omega, by omega⟩) (tgt := 9) (by decide) (fun c_2 => ?_) (fun c_2 => ?_)
  · skip
    refine R_iload_n dJ14_max_9 rfl rfl ?_
    refine Z_retI dJ14_max_10 (rf_i rfl) ?_
    first | (rw [if_pos (by omega)] at hQ; exact hQ) | (rw [if_neg (by omega)] at hQ; exact hQ)
  · skip
    refine R_iload_n dJ14_max_5 rfl rfl ?_
    refine R_goto dJ14_max_6 (tgt := 10) (by decide) ?_
    refine Z_retI dJ14_max_10 (rf_i rfl) ?_
    first | (rw [if_pos (by omega)] at hQ; exact hQ) | (rw [if_neg (by omega)] at hQ; exact hQ)
theorem sp_J12_intValue {Ω : Wd} {d r : Nat} {Q : Hp → Out → Prop} {h : Hp} {a g : Nat} {v : Value} (hA : h.1 a = some (g, 22, [v])) (hv : ∃ x, v = .int x) (hQ : Q h (.inl (some v))) : Ok Ω M_J12_intValue d r [.ref a] h Q := by
  obtain ⟨x, rfl⟩ := hv
  refine Ok.of (by decide) rfl (Nat.le_of_ble_eq_true rfl) rfl ?_
  refine R_aload_n dJ12_intValue_0 rfl rfl rfl ?_
  refine R_getfield dJ12_intValue_1 gf_J12_205 (by assumption) (by rfl) (by rfl) ?_
  refine Z_retI dJ12_intValue_4 (rf_i rfl) ?_
  exact hQ

