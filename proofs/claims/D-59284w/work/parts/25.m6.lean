/-! the model: more that changes it -/
set_option maxRecDepth 100000
def capS (σ : St) (v : Int) : Nat → Prop
  | 0 => True
  | n + 1 => capS σ v n ∧ loadF σ (n : Int) ≤ (if σ (97 + 5 * (n : Int) + 1) = 1 then 2 * v else v)

theorem lp_cap {Ω : Wd} {d r : Nat} {Q : Hp → Out → Prop} {b : Nat} {h0 : Hp} {σ : St} {v : Int} (hI : MI σ) (hv9 : 1 ≤ v ∧ v ≤ 9) (hR : ∀ n : Nat, n < 4 → (if σ (97 + 5 * (n : Int) + 1) = 1 then 2 * v else v) < loadF σ (n : Int) → Q (mh b h0 (us σ 703 2)) (.inl (some (.int (zI 0))))) : ∀ (k n : Nat), n + k = 4 → (capS σ v n) → ((capS σ v 4) → At Ω M_X9_setCapacity (d + 2) r Q 60 [some (.ref b), some (.int (zI (v))), none] [] (mh b h0 (σ))) → At Ω M_X9_setCapacity (d + 2) r Q 23 [some (.ref b), some (.int (zI (v))), some (.int (zI (((n : Nat) : Int))))] [] (mh b h0 (σ)) := by
  intro k
  induction k with
  | zero =>
    intro n hn hv hX
    have hnN : n = 4 := by omega
    rw [hnN] at hv ⊢
    refine R_iload_n dX9_setCapacity_23 rfl rfl ?_
    refine R_iconst dX9_setCapacity_24 (v := zI (4)) rfl ?_
    refine Z_icmp_ge dX9_setCapacity_25 (by first | exact hI.1 _ | assumption | exact hI1.1 _ | exact hI2.1 _ | exact ⟨by omega, by omega⟩) (by first | exact hI.1 _ | assumption | exact hI1.1 _ | exact hI2.1 _ | exact ⟨by omega, by omega⟩) (tgt := 60) (by decide) (fun c_25 => ?_) (fun c_25 => absurd c_25 (by omega))
    exact At.dropS (L' := [some (.ref b), some (.int (zI (v))), none]) ⟨rfl, rfl, trivial⟩ (hX hv)
  | succ k ih =>
    intro n hn hv hX
    refine R_iload_n dX9_setCapacity_23 rfl rfl ?_
    refine R_iconst dX9_setCapacity_24 (v := zI (4)) rfl ?_
    refine Z_icmp_ge dX9_setCapacity_25 (by first | exact hI.1 _ | assumption | exact hI1.1 _ | exact hI2.1 _ | exact ⟨by omega, by omega⟩) (by first | exact hI.1 _ | assumption | exact hI1.1 _ | exact hI2.1 _ | exact ⟨by omega, by omega⟩) (tgt := 60) (by decide) (fun c_25 => absurd c_25 (by omega)) (fun c_25 => ?_)
    have hl := loadF_bd hI (n : Int)
    have hv1 := hI.2.2.2.2.2.2.1 (n : Int) (by omega)
    refine R_aload_n dX9_setCapacity_28 rfl rfl rfl ?_
    refine R_iload_n dX9_setCapacity_29 rfl rfl ?_
    refine R_cV1 0 dX9_setCapacity_30 rfl cv_X9_94 mh_get0 rfl rfl (Nat.le_of_ble_eq_true rfl) (Nat.zero_le _) (sp_X9_load (by first | assumption | exact hI.1 _ | exact hI1.1 _ | exact hI2.1 _ | omega | (refine ⟨?_, ?_⟩ <;> omega)) (by first | assumption | exact hI.1 _ | exact hI1.1 _ | exact hI2.1 _ | omega | (refine ⟨?_, ?_⟩ <;> omega)) (kq.v ?_))
    refine R_aload_n dX9_setCapacity_33 rfl rfl rfl ?_
    refine R_iload_n dX9_setCapacity_34 rfl rfl ?_
    refine R_aload_n dX9_setCapacity_35 rfl rfl rfl ?_
    refine R_iload_n dX9_setCapacity_36 rfl rfl ?_
    refine R_iconst dX9_setCapacity_37 (v := zI (1)) rfl ?_
    refine R_cV2 0 dX9_setCapacity_38 rfl cv_X9_53 mh_get0 rfl rfl (Nat.le_of_ble_eq_true rfl) (Nat.zero_le _) (sp_X9_of (by first | assumption | exact hI.1 _ | exact hI1.1 _ | exact hI2.1 _ | omega | (refine ⟨?_, ?_⟩ <;> omega)) (kq.v ?_))
    refine R_iload_n dX9_setCapacity_41 rfl rfl ?_
    refine R_cV3 0 dX9_setCapacity_42 rfl cv_X9_56 mh_get0 rfl rfl (Nat.le_of_ble_eq_true rfl) (Nat.zero_le _) (sp_X9_room (by first | assumption | exact hI.1 _ | exact hI1.1 _ | exact hI2.1 _ | omega | (refine ⟨?_, ?_⟩ <;> omega)) (kq.v ?_))
    refine Z_icmp_le dX9_setCapacity_45 (by first | exact ⟨by omega, by omega⟩ | (split <;> exact ⟨by omega, by omega⟩)) (by first | exact ⟨by omega, by omega⟩ | (split <;> exact ⟨by omega, by omega⟩)) (tgt := 54) (by decide) (fun c_45 => ?_) (fun c_45 => ?_)
    · skip
      refine Z_iinc dX9_setCapacity_54 rfl (by decide) rfl rfl ?_
      refine R_goto dX9_setCapacity_57 (tgt := 23) (by decide) ?_
      exact At.dropS (L' := [some (.ref b), some (.int (zI (v))), some (.int (zI ((((n + 1) : Nat) : Int))))]) ⟨rfl, rfl, rfl, trivial⟩ (ih (n + 1) (by omega) ⟨hv, by omega⟩ hX)
    · skip
      refine R_aload_n dX9_setCapacity_48 rfl rfl rfl ?_
      refine R_iconst dX9_setCapacity_49 (v := zI (2)) rfl ?_
      refine R_cV1 0 dX9_setCapacity_50 rfl cv_X9_122 mh_get0 rfl rfl (Nat.le_of_ble_eq_true rfl) (Nat.zero_le _) (sp_X9_throwing  (kq.v ?_))
      refine Z_retI dX9_setCapacity_53 (rf_i rfl) ?_
      exact hR n (by omega) (by omega)

theorem sp_X9_setCapacity {Ω : Wd} {d r : Nat} {Q : Hp → Out → Prop} {b : Nat} {h0 : Hp} {σ : St} {v : Int} {τ : St} (hτ : us σ 703 0 = τ) (hI : MI τ) (hv : rg v) (h1 : ¬ (1 ≤ v ∧ v ≤ 9) → Q (mh b h0 (us τ 703 1)) (.inl (some (.int (zI 0))))) (h2 : (1 ≤ v ∧ v ≤ 9) → ∀ n : Nat, n < 4 → (if τ (97 + 5 * (n : Int) + 1) = 1 then 2 * v else v) < loadF τ (n : Int) → Q (mh b h0 (us τ 703 2)) (.inl (some (.int (zI 0))))) (h3 : (1 ≤ v ∧ v ≤ 9) → capS τ v 4 → Q (mh b h0 (us (savF τ) 166 v)) (.inl (some (.int (zI (savF τ 166)))))) : Ok Ω M_X9_setCapacity (d + 2) r [.ref b, .int (zI v)] (mh b h0 (σ)) Q := by
  refine Ok.of (by decide) rfl (Nat.le_of_ble_eq_true rfl) rfl ?_
  refine R_aload_n dX9_setCapacity_0 rfl rfl rfl ?_
  refine R_iconst dX9_setCapacity_1 (v := zI (0)) rfl ?_
  refine Zm_pf7 dX9_setCapacity_2 pf_X9_38 ?_
  rw [hτ]
  refine R_iload_n dX9_setCapacity_5 rfl rfl ?_
  refine R_iconst dX9_setCapacity_6 (v := zI (1)) rfl ?_
  refine R_bipush dX9_setCapacity_7 (v := zI (9)) rfl ?_
  refine R_cS3 0 dX9_setCapacity_9 rfl cs_X9_42 (Nat.le_of_ble_eq_true rfl) (Nat.zero_le _) (sp_X9_in (by first | assumption | exact hI.1 _ | exact hI1.1 _ | exact hI2.1 _ | omega | (refine ⟨?_, ?_⟩ <;> omega)) (by first | assumption | exact hI.1 _ | exact hI1.1 _ | exact hI2.1 _ | omega | (refine ⟨?_, ?_⟩ <;> omega)) (by first | assumption | exact hI.1 _ | exact hI1.1 _ | exact hI2.1 _ | omega | (refine ⟨?_, ?_⟩ <;> omega)) (kq.v ?_))
  refine Z_if_neB dX9_setCapacity_12 (tgt := 21) (by decide) (fun c_12 => ?_) (fun c_12 => ?_)
  · skip
    refine R_iconst dX9_setCapacity_21 (v := zI (0)) rfl ?_
    refine R_istore_n dX9_setCapacity_22 rfl (by decide) rfl rfl ?_
    refine At.dropS (L' := [some (.ref b), some (.int (zI (v))), some (.int (zI (((0 : Nat) : Int))))]) ⟨rfl, rfl, rfl, trivial⟩ (lp_cap hI (by omega) (h2 (by omega)) _ 0 (Nat.zero_add _) (by trivial) (fun hv_23 => ?_))
    refine R_aload_n dX9_setCapacity_60 rfl rfl rfl ?_
    refine R_cV0 0 dX9_setCapacity_61 rfl cv_X9_125 mh_get0 rfl rfl (Nat.le_of_ble_eq_true rfl) (Nat.zero_le _) (sp_X9_save (by first | assumption | exact hI.1 _ | exact hI1.1 _ | exact hI2.1 _ | omega | (refine ⟨?_, ?_⟩ <;> omega)) (kq.n ?_))
    refine R_aload_n dX9_setCapacity_64 rfl rfl rfl ?_
    refine Zm_gf dX9_setCapacity_65 gf_X9_7 rfl ?_
    refine R_sipush dX9_setCapacity_68 (v := zI (166)) rfl ?_
    refine Zm_ld1 dX9_setCapacity_71 (by omega) ?_
    refine R_istore_n dX9_setCapacity_72 rfl (by decide) rfl rfl ?_
    refine R_aload_n dX9_setCapacity_73 rfl rfl rfl ?_
    refine Zm_gf dX9_setCapacity_74 gf_X9_7 rfl ?_
    refine R_sipush dX9_setCapacity_77 (v := zI (166)) rfl ?_
    refine R_iload_n dX9_setCapacity_80 rfl rfl ?_
    refine Zm_st1 dX9_setCapacity_81 (by omega) ?_
    refine R_iload_n dX9_setCapacity_82 rfl rfl ?_
    refine Z_retI dX9_setCapacity_83 (rf_i rfl) ?_
    exact h3 (by omega) hv_23
  · skip
    refine R_aload_n dX9_setCapacity_15 rfl rfl rfl ?_
    refine R_iconst dX9_setCapacity_16 (v := zI (1)) rfl ?_
    refine R_cV1 0 dX9_setCapacity_17 rfl cv_X9_122 mh_get0 rfl rfl (Nat.le_of_ble_eq_true rfl) (Nat.zero_le _) (sp_X9_throwing  (kq.v ?_))
    refine Z_retI dX9_setCapacity_20 (rf_i rfl) ?_
    exact h1 (by omega)

def npcF (τ : St) (p j t w v : Int) : St := us (us (us (us (us (us (us τ 117 (τ 117 + 1)) (118 + 6 * p + 0) j) (118 + 6 * p + 1) t) (118 + 6 * p + 2) w) (118 + 6 * p + 3) v) (118 + 6 * p + 4) 0) (118 + 6 * p + 5) (-1)
theorem npcF_MI {τ : St} (hI : MI τ) (h8 : τ 117 < 8) {j t w v : Int} (hj : 0 ≤ j ∧ j < 10) (ht : 0 ≤ t ∧ t < 10) (hw : 1 ≤ w ∧ w ≤ 5) (hv : 1 ≤ v ∧ v ≤ 9) : MI (npcF τ (τ 117) j t w v) := by
  have h117 := hI.2.2.1
  obtain ⟨h1, h2, h3, h4, h5, h6, h7, h8', h9⟩ := hI
  unfold npcF
  refine ⟨rg_us (rg_us (rg_us (rg_us (rg_us (rg_us (rg_us h1 ⟨by omega, by omega⟩) ⟨by omega, by omega⟩) ⟨by omega, by omega⟩) ⟨by omega, by omega⟩) ⟨by omega, by omega⟩) ⟨by omega, by omega⟩) ⟨by omega, by omega⟩, ?_, ?_, ?_, ?_, ?_, ?_, ?_, ?_⟩
  · repeat rw [us_ne (by omega)]
    exact h2
  · rw [us_ne (by omega), us_ne (by omega), us_ne (by omega), us_ne (by omega), us_ne (by omega), us_ne (by omega), us_eq]
    omega
  · repeat rw [us_ne (by omega)]
    exact h4
  · repeat rw [us_ne (by omega)]
    exact h5
  · repeat rw [us_ne (by omega)]
    exact h6
  · intro c hc
    repeat rw [us_ne (by omega)]
    exact h7 c hc
  · intro k hk
    have e0 : npcF τ (τ 117) j t w v 0 = τ 0 := by
      unfold npcF
      repeat rw [us_ne (by omega)]
    have hk2 : k < τ 0 := by rw [← e0]; exact hk.2
    repeat rw [us_ne (by omega)]
    exact h8' k ⟨hk.1, hk2⟩
  · intro p hp
    have e1 : npcF τ (τ 117) j t w v 117 = τ 117 + 1 := by
      unfold npcF
      rw [us_ne (by omega), us_ne (by omega), us_ne (by omega), us_ne (by omega), us_ne (by omega), us_ne (by omega), us_eq]
    have hp2 : p < τ 117 + 1 := by rw [← e1]; exact hp.2
    by_cases e : p = τ 117
    · subst e
      refine ⟨?_, ?_, ?_, ?_, ?_, ?_⟩ <;> (repeat (first | rw [us_eq] | rw [us_ne (by omega)])) <;> omega
    · have := h9 p ⟨hp.1, by omega⟩
      refine ⟨?_, ?_, ?_, ?_, ?_, ?_⟩ <;> (repeat rw [us_ne (by omega)]) <;> omega

theorem sp_X9_addParcel {Ω : Wd} {d r : Nat} {Q : Hp → Out → Prop} {b : Nat} {h0 : Hp} {σ : St} {j t w v : Int} {τ : St} (hτ : us σ 703 0 = τ) (hI : MI τ) (hj : rg j) (ht : rg t) (hw : rg w) (hv : rg v) (h1 : ¬ ((0 ≤ j ∧ j ≤ 9) ∧ (0 ≤ t ∧ t ≤ 9)) → Q (mh b h0 (us τ 703 1)) (.inl (some (.int (zI 0))))) (h2 : ((0 ≤ j ∧ j ≤ 9) ∧ (0 ≤ t ∧ t ≤ 9)) → ¬ (¬ j = t ∧ (1 ≤ w ∧ w ≤ 5) ∧ (1 ≤ v ∧ v ≤ 9)) → Q (mh b h0 (us τ 703 2)) (.inl (some (.int (zI 0))))) (h3 : ((0 ≤ j ∧ j ≤ 9) ∧ (0 ≤ t ∧ t ≤ 9)) → (¬ j = t ∧ (1 ≤ w ∧ w ≤ 5) ∧ (1 ≤ v ∧ v ≤ 9)) → τ 117 = 8 → Q (mh b h0 (us τ 703 3)) (.inl (some (.int (zI 0))))) (h4 : ((0 ≤ j ∧ j ≤ 9) ∧ (0 ≤ t ∧ t ≤ 9)) → (¬ j = t ∧ (1 ≤ w ∧ w ≤ 5) ∧ (1 ≤ v ∧ v ≤ 9)) → ¬ τ 117 = 8 → Q (mh b h0 (notesF (us (npcF (savF τ) (savF τ 117) j t w v) 174 0))) (.inl (some (.int (zI (savF τ 117)))))) : Ok Ω M_X9_addParcel (d + 5) r [.ref b, .int (zI j), .int (zI t), .int (zI w), .int (zI v)] (mh b h0 (σ)) Q := by
  refine Ok.of (by decide) rfl (Nat.le_of_ble_eq_true rfl) rfl ?_
  refine R_aload_n dX9_addParcel_0 rfl rfl rfl ?_
  refine R_iconst dX9_addParcel_1 (v := zI (0)) rfl ?_
  refine Zm_pf7 dX9_addParcel_2 pf_X9_38 ?_
  rw [hτ]
  refine R_iload_n dX9_addParcel_5 rfl rfl ?_
  refine R_cS1 0 dX9_addParcel_6 rfl cs_X9_119 (Nat.le_of_ble_eq_true rfl) (Nat.zero_le _) (sp_X9_isJunction (by first | assumption | exact hI.1 _ | exact hI1.1 _ | exact hI2.1 _ | omega | (refine ⟨?_, ?_⟩ <;> omega)) (kq.v ?_))
  refine Z_if_eqB dX9_addParcel_9 (tgt := 19) (by decide) (fun c_9 => ?_) (fun c_9 => ?_)
  · skip
    refine R_aload_n dX9_addParcel_19 rfl rfl rfl ?_
    refine R_iconst dX9_addParcel_20 (v := zI (1)) rfl ?_
    refine R_cV1 0 dX9_addParcel_21 rfl cv_X9_122 mh_get0 rfl rfl (Nat.le_of_ble_eq_true rfl) (Nat.zero_le _) (sp_X9_throwing  (kq.v ?_))
    refine Z_retI dX9_addParcel_24 (rf_i rfl) ?_
    exact h1 (by omega)
  · skip
    refine R_iload_n dX9_addParcel_12 rfl rfl ?_
    refine R_cS1 0 dX9_addParcel_13 rfl cs_X9_119 (Nat.le_of_ble_eq_true rfl) (Nat.zero_le _) (sp_X9_isJunction (by first | assumption | exact hI.1 _ | exact hI1.1 _ | exact hI2.1 _ | omega | (refine ⟨?_, ?_⟩ <;> omega)) (kq.v ?_))
    refine Z_if_neB dX9_addParcel_16 (tgt := 25) (by decide) (fun c_16 => ?_) (fun c_16 => ?_)
    · skip
      refine R_iload_n dX9_addParcel_25 rfl rfl ?_
      refine R_iload_n dX9_addParcel_26 rfl rfl ?_
      refine Z_icmp_eq dX9_addParcel_27 (by first | exact hI.1 _ | assumption | exact hI1.1 _ | exact hI2.1 _ | exact ⟨by omega, by omega⟩) (by first | exact hI.1 _ | assumption | exact hI1.1 _ | exact hI2.1 _ | exact ⟨by omega, by omega⟩) (tgt := 50) (by decide) (fun c_27 => ?_) (fun c_27 => ?_)
      · skip
        refine R_aload_n dX9_addParcel_50 rfl rfl rfl ?_
        refine R_iconst dX9_addParcel_51 (v := zI (2)) rfl ?_
        refine R_cV1 0 dX9_addParcel_52 rfl cv_X9_122 mh_get0 rfl rfl (Nat.le_of_ble_eq_true rfl) (Nat.zero_le _) (sp_X9_throwing  (kq.v ?_))
        refine Z_retI dX9_addParcel_55 (rf_i rfl) ?_
        exact h2 (by omega) (by omega)
      · skip
        refine R_iload_n dX9_addParcel_30 rfl rfl ?_
        refine R_iconst dX9_addParcel_31 (v := zI (1)) rfl ?_
        refine R_iconst dX9_addParcel_32 (v := zI (5)) rfl ?_
        refine R_cS3 0 dX9_addParcel_33 rfl cs_X9_42 (Nat.le_of_ble_eq_true rfl) (Nat.zero_le _) (sp_X9_in (by first | assumption | exact hI.1 _ | exact hI1.1 _ | exact hI2.1 _ | omega | (refine ⟨?_, ?_⟩ <;> omega)) (by first | assumption | exact hI.1 _ | exact hI1.1 _ | exact hI2.1 _ | omega | (refine ⟨?_, ?_⟩ <;> omega)) (by first | assumption | exact hI.1 _ | exact hI1.1 _ | exact hI2.1 _ | omega | (refine ⟨?_, ?_⟩ <;> omega)) (kq.v ?_))
        have h117 := hI.2.2.1
        have hk := hI.2.2.2.2.1
        refine Z_if_eqB dX9_addParcel_36 (tgt := 50) (by decide) (fun c_36 => ?_) (fun c_36 => ?_)
        · skip
          refine R_aload_n dX9_addParcel_50 rfl rfl rfl ?_
          refine R_iconst dX9_addParcel_51 (v := zI (2)) rfl ?_
          refine R_cV1 0 dX9_addParcel_52 rfl cv_X9_122 mh_get0 rfl rfl (Nat.le_of_ble_eq_true rfl) (Nat.zero_le _) (sp_X9_throwing  (kq.v ?_))
          refine Z_retI dX9_addParcel_55 (rf_i rfl) ?_
          exact h2 (by omega) (by omega)
        · skip
          refine R_iload dX9_addParcel_39 rfl ?_
          refine R_iconst dX9_addParcel_41 (v := zI (1)) rfl ?_
          refine R_bipush dX9_addParcel_42 (v := zI (9)) rfl ?_
          refine R_cS3 0 dX9_addParcel_44 rfl cs_X9_42 (Nat.le_of_ble_eq_true rfl) (Nat.zero_le _) (sp_X9_in (by first | assumption | exact hI.1 _ | exact hI1.1 _ | exact hI2.1 _ | omega | (refine ⟨?_, ?_⟩ <;> omega)) (by first | assumption | exact hI.1 _ | exact hI1.1 _ | exact hI2.1 _ | omega | (refine ⟨?_, ?_⟩ <;> omega)) (by first | assumption | exact hI.1 _ | exact hI1.1 _ | exact hI2.1 _ | omega | (refine ⟨?_, ?_⟩ <;> omega)) (kq.v ?_))
          refine Z_if_neB dX9_addParcel_47 (tgt := 56) (by decide) (fun c_47 => ?_) (fun c_47 => ?_)
          · skip
            have h117 := hI.2.2.1
            have hk := hI.2.2.2.2.1
            refine R_aload_n dX9_addParcel_56 rfl rfl rfl ?_
            refine Zm_gf dX9_addParcel_57 gf_X9_7 rfl ?_
            refine R_bipush dX9_addParcel_60 (v := zI (117)) rfl ?_
            refine Zm_ld1 dX9_addParcel_62 (by omega) ?_
            refine R_bipush dX9_addParcel_63 (v := zI (8)) rfl ?_
            refine Z_icmp_ne dX9_addParcel_65 (by first | exact hI.1 _ | assumption | exact hI1.1 _ | exact hI2.1 _ | exact ⟨by omega, by omega⟩) (by first | exact hI.1 _ | assumption | exact hI1.1 _ | exact hI2.1 _ | exact ⟨by omega, by omega⟩) (tgt := 74) (by decide) (fun c_65 => ?_) (fun c_65 => ?_)
            · skip
              have e1 : savF τ 117 = τ 117 := savF_low (by omega) (by omega)
              have hI2 : MI (npcF (savF τ) (savF τ 117) j t w v) := npcF_MI (savF_MI hI) (by omega) (by omega) (by omega) (by omega) (by omega)
              refine R_aload_n dX9_addParcel_74 rfl rfl rfl ?_
              refine R_cV0 0 dX9_addParcel_75 rfl cv_X9_125 mh_get0 rfl rfl (Nat.le_of_ble_eq_true rfl) (Nat.zero_le _) (sp_X9_save (by first | assumption | exact hI.1 _ | exact hI1.1 _ | exact hI2.1 _ | omega | (refine ⟨?_, ?_⟩ <;> omega)) (kq.n ?_))
              refine R_aload_n dX9_addParcel_78 rfl rfl rfl ?_
              refine Zm_gf dX9_addParcel_79 gf_X9_7 rfl ?_
              refine R_bipush dX9_addParcel_82 (v := zI (117)) rfl ?_
              refine Zm_ld1 dX9_addParcel_84 (by omega) ?_
              refine R_istore dX9_addParcel_85 (by decide) rfl rfl ?_
              refine R_aload_n dX9_addParcel_87 rfl rfl rfl ?_
              refine Zm_gf dX9_addParcel_88 gf_X9_7 rfl ?_
              refine R_bipush dX9_addParcel_91 (v := zI (117)) rfl ?_
              refine R_dup2 dX9_addParcel_93 rfl rfl ?_
              refine Zm_ld1 dX9_addParcel_94 (by omega) ?_
              refine R_iconst dX9_addParcel_95 (v := zI (1)) rfl ?_
              refine Z_iadd dX9_addParcel_96 ?_
              refine Zm_st1 dX9_addParcel_97 (by omega) ?_
              refine R_aload_n dX9_addParcel_98 rfl rfl rfl ?_
              refine R_iload dX9_addParcel_99 rfl ?_
              refine R_iconst dX9_addParcel_101 (v := zI (0)) rfl ?_
              refine R_iload_n dX9_addParcel_102 rfl rfl ?_
              refine R_cV3 0 dX9_addParcel_103 rfl cv_X9_103 mh_get0 rfl rfl (Nat.le_of_ble_eq_true rfl) (Nat.zero_le _) (sp_X9_put (by first | assumption | exact hI.1 _ | exact hI1.1 _ | exact hI2.1 _ | omega | (refine ⟨?_, ?_⟩ <;> omega)) (kq.n ?_))
              refine R_aload_n dX9_addParcel_106 rfl rfl rfl ?_
              refine R_iload dX9_addParcel_107 rfl ?_
              refine R_iconst dX9_addParcel_109 (v := zI (1)) rfl ?_
              refine R_iload_n dX9_addParcel_110 rfl rfl ?_
              refine R_cV3 0 dX9_addParcel_111 rfl cv_X9_103 mh_get0 rfl rfl (Nat.le_of_ble_eq_true rfl) (Nat.zero_le _) (sp_X9_put (by first | assumption | exact hI.1 _ | exact hI1.1 _ | exact hI2.1 _ | omega | (refine ⟨?_, ?_⟩ <;> omega)) (kq.n ?_))
              refine R_aload_n dX9_addParcel_114 rfl rfl rfl ?_
              refine R_iload dX9_addParcel_115 rfl ?_
              refine R_iconst dX9_addParcel_117 (v := zI (2)) rfl ?_
              refine R_iload_n dX9_addParcel_118 rfl rfl ?_
              refine R_cV3 0 dX9_addParcel_119 rfl cv_X9_103 mh_get0 rfl rfl (Nat.le_of_ble_eq_true rfl) (Nat.zero_le _) (sp_X9_put (by first | assumption | exact hI.1 _ | exact hI1.1 _ | exact hI2.1 _ | omega | (refine ⟨?_, ?_⟩ <;> omega)) (kq.n ?_))
              refine R_aload_n dX9_addParcel_122 rfl rfl rfl ?_
              refine R_iload dX9_addParcel_123 rfl ?_
              refine R_iconst dX9_addParcel_125 (v := zI (3)) rfl ?_
              refine R_iload dX9_addParcel_126 rfl ?_
              refine R_cV3 0 dX9_addParcel_128 rfl cv_X9_103 mh_get0 rfl rfl (Nat.le_of_ble_eq_true rfl) (Nat.zero_le _) (sp_X9_put (by first | assumption | exact hI.1 _ | exact hI1.1 _ | exact hI2.1 _ | omega | (refine ⟨?_, ?_⟩ <;> omega)) (kq.n ?_))
              refine R_aload_n dX9_addParcel_131 rfl rfl rfl ?_
              refine R_iload dX9_addParcel_132 rfl ?_
              refine R_iconst dX9_addParcel_134 (v := zI (4)) rfl ?_
              refine R_iconst dX9_addParcel_135 (v := zI (0)) rfl ?_
              refine R_cV3 0 dX9_addParcel_136 rfl cv_X9_103 mh_get0 rfl rfl (Nat.le_of_ble_eq_true rfl) (Nat.zero_le _) (sp_X9_put (by first | assumption | exact hI.1 _ | exact hI1.1 _ | exact hI2.1 _ | omega | (refine ⟨?_, ?_⟩ <;> omega)) (kq.n ?_))
              refine R_aload_n dX9_addParcel_139 rfl rfl rfl ?_
              refine R_iload dX9_addParcel_140 rfl ?_
              refine R_iconst dX9_addParcel_142 (v := zI (5)) rfl ?_
              refine R_iconst dX9_addParcel_143 (v := zI (-1)) rfl ?_
              refine R_cV3 0 dX9_addParcel_144 rfl cv_X9_103 mh_get0 rfl rfl (Nat.le_of_ble_eq_true rfl) (Nat.zero_le _) (sp_X9_put (by first | assumption | exact hI.1 _ | exact hI1.1 _ | exact hI2.1 _ | omega | (refine ⟨?_, ?_⟩ <;> omega)) (kq.n ?_))
              show At Ω _ _ _ _ _ _ _ (mh b h0 (npcF (savF τ) (savF τ 117) j t w v))
              refine R_aload_n dX9_addParcel_147 rfl rfl rfl ?_
              refine R_cV0 0 dX9_addParcel_148 rfl cv_X9_137 mh_get0 rfl rfl (Nat.le_of_ble_eq_true rfl) (Nat.zero_le _) (sp_X9_drops (by first | assumption | exact hI.1 _ | exact hI1.1 _ | exact hI2.1 _ | omega | (refine ⟨?_, ?_⟩ <;> omega)) (kq.n ?_))
              refine R_iload dX9_addParcel_151 rfl ?_
              refine Z_retI dX9_addParcel_153 (rf_i rfl) ?_
              exact h4 (by omega) (by omega) (by omega)
            · skip
              refine R_aload_n dX9_addParcel_68 rfl rfl rfl ?_
              refine R_iconst dX9_addParcel_69 (v := zI (3)) rfl ?_
              refine R_cV1 0 dX9_addParcel_70 rfl cv_X9_122 mh_get0 rfl rfl (Nat.le_of_ble_eq_true rfl) (Nat.zero_le _) (sp_X9_throwing  (kq.v ?_))
              refine Z_retI dX9_addParcel_73 (rf_i rfl) ?_
              exact h3 (by omega) (by omega) (by omega)
          · skip
            refine R_aload_n dX9_addParcel_50 rfl rfl rfl ?_
            refine R_iconst dX9_addParcel_51 (v := zI (2)) rfl ?_
            refine R_cV1 0 dX9_addParcel_52 rfl cv_X9_122 mh_get0 rfl rfl (Nat.le_of_ble_eq_true rfl) (Nat.zero_le _) (sp_X9_throwing  (kq.v ?_))
            refine Z_retI dX9_addParcel_55 (rf_i rfl) ?_
            exact h2 (by omega) (by omega)
    · skip
      refine R_aload_n dX9_addParcel_19 rfl rfl rfl ?_
      refine R_iconst dX9_addParcel_20 (v := zI (1)) rfl ?_
      refine R_cV1 0 dX9_addParcel_21 rfl cv_X9_122 mh_get0 rfl rfl (Nat.le_of_ble_eq_true rfl) (Nat.zero_le _) (sp_X9_throwing  (kq.v ?_))
      refine Z_retI dX9_addParcel_24 (rf_i rfl) ?_
      exact h1 (by omega)

theorem sp_X9_setLimit {Ω : Wd} {d r : Nat} {Q : Hp → Out → Prop} {b : Nat} {h0 : Hp} {σ : St} {v : Int} {τ : St} (hτ : us σ 703 0 = τ) (hI : MI τ) (hv : rg v) (h1 : ¬ (1 ≤ v ∧ v ≤ 60) → Q (mh b h0 (us τ 703 1)) (.inl (some (.int (zI 0))))) (h2 : (1 ≤ v ∧ v ≤ 60) → Q (mh b h0 (us (savF τ) 167 v)) (.inl (some (.int (zI (savF τ 167)))))) : Ok Ω M_X9_setLimit (d + 1) r [.ref b, .int (zI v)] (mh b h0 (σ)) Q := by
  refine Ok.of (by decide) rfl (Nat.le_of_ble_eq_true rfl) rfl ?_
  refine R_aload_n dX9_setLimit_0 rfl rfl rfl ?_
  refine R_iconst dX9_setLimit_1 (v := zI (0)) rfl ?_
  refine Zm_pf7 dX9_setLimit_2 pf_X9_38 ?_
  rw [hτ]
  refine R_iload_n dX9_setLimit_5 rfl rfl ?_
  refine R_iconst dX9_setLimit_6 (v := zI (1)) rfl ?_
  refine R_bipush dX9_setLimit_7 (v := zI (60)) rfl ?_
  refine R_cS3 0 dX9_setLimit_9 rfl cs_X9_42 (Nat.le_of_ble_eq_true rfl) (Nat.zero_le _) (sp_X9_in (by first | assumption | exact hI.1 _ | exact hI1.1 _ | exact hI2.1 _ | omega | (refine ⟨?_, ?_⟩ <;> omega)) (by first | assumption | exact hI.1 _ | exact hI1.1 _ | exact hI2.1 _ | omega | (refine ⟨?_, ?_⟩ <;> omega)) (by first | assumption | exact hI.1 _ | exact hI1.1 _ | exact hI2.1 _ | omega | (refine ⟨?_, ?_⟩ <;> omega)) (kq.v ?_))
  refine Z_if_neB dX9_setLimit_12 (tgt := 21) (by decide) (fun c_12 => ?_) (fun c_12 => ?_)
  · skip
    refine R_aload_n dX9_setLimit_21 rfl rfl rfl ?_
    refine R_cV0 0 dX9_setLimit_22 rfl cv_X9_125 mh_get0 rfl rfl (Nat.le_of_ble_eq_true rfl) (Nat.zero_le _) (sp_X9_save (by first | assumption | exact hI.1 _ | exact hI1.1 _ | exact hI2.1 _ | omega | (refine ⟨?_, ?_⟩ <;> omega)) (kq.n ?_))
    refine R_aload_n dX9_setLimit_25 rfl rfl rfl ?_
    refine Zm_gf dX9_setLimit_26 gf_X9_7 rfl ?_
    refine R_sipush dX9_setLimit_29 (v := zI (167)) rfl ?_
    refine Zm_ld1 dX9_setLimit_32 (by omega) ?_
    refine R_istore_n dX9_setLimit_33 rfl (by decide) rfl rfl ?_
    refine R_aload_n dX9_setLimit_34 rfl rfl rfl ?_
    refine Zm_gf dX9_setLimit_35 gf_X9_7 rfl ?_
    refine R_sipush dX9_setLimit_38 (v := zI (167)) rfl ?_
    refine R_iload_n dX9_setLimit_41 rfl rfl ?_
    refine Zm_st1 dX9_setLimit_42 (by omega) ?_
    refine R_iload_n dX9_setLimit_43 rfl rfl ?_
    refine Z_retI dX9_setLimit_44 (rf_i rfl) ?_
    exact h2 (by omega)
  · skip
    refine R_aload_n dX9_setLimit_15 rfl rfl rfl ?_
    refine R_iconst dX9_setLimit_16 (v := zI (1)) rfl ?_
    refine R_cV1 0 dX9_setLimit_17 rfl cv_X9_122 mh_get0 rfl rfl (Nat.le_of_ble_eq_true rfl) (Nat.zero_le _) (sp_X9_throwing  (kq.v ?_))
    refine Z_retI dX9_setLimit_20 (rf_i rfl) ?_
    exact h1 (by omega)

theorem sp_X9_order {Ω : Wd} {d r : Nat} {Q : Hp → Out → Prop} {b : Nat} {h0 : Hp} {σ : St} {q k : Int} {τ : St} (hτ : us σ 703 0 = τ) (hI : MI τ) (hq : rg q) (hk : rg k) (h1 : ¬ ((0 ≤ q ∧ q ≤ 3) ∧ (0 ≤ k ∧ k < τ 0)) → Q (mh b h0 (us τ 703 1)) (.inl (some (.int (zI 0))))) (h2 : ((0 ≤ q ∧ q ≤ 3) ∧ (0 ≤ k ∧ k < τ 0)) → ¬ noOrdF τ q k = 0 → Q (mh b h0 (us τ 703 2)) (.inl (some (.int (zI 0))))) (h3 : ((0 ≤ q ∧ q ≤ 3) ∧ (0 ≤ k ∧ k < τ 0)) → noOrdF τ q k = 0 → Q (mh b h0 (us (savF τ) (97 + 5 * q + 2) k)) (.inl (some (.int (zI (us (savF τ) (97 + 5 * q + 2) k (1 + 4 * k + 1))))))) : Ok Ω M_X9_order (d + 5) r [.ref b, .int (zI q), .int (zI k)] (mh b h0 (σ)) Q := by
  refine Ok.of (by decide) rfl (Nat.le_of_ble_eq_true rfl) rfl ?_
  refine R_aload_n dX9_order_0 rfl rfl rfl ?_
  refine R_iconst dX9_order_1 (v := zI (0)) rfl ?_
  refine Zm_pf7 dX9_order_2 pf_X9_38 ?_
  rw [hτ]
  refine R_iload_n dX9_order_5 rfl rfl ?_
  refine R_cS1 0 dX9_order_6 rfl cs_X9_134 (Nat.le_of_ble_eq_true rfl) (Nat.zero_le _) (sp_X9_isCourier (by first | assumption | exact hI.1 _ | exact hI1.1 _ | exact hI2.1 _ | omega | (refine ⟨?_, ?_⟩ <;> omega)) (kq.v ?_))
  refine Z_if_eqB dX9_order_9 (tgt := 20) (by decide) (fun c_9 => ?_) (fun c_9 => ?_)
  · skip
    refine R_aload_n dX9_order_20 rfl rfl rfl ?_
    refine R_iconst dX9_order_21 (v := zI (1)) rfl ?_
    refine R_cV1 0 dX9_order_22 rfl cv_X9_122 mh_get0 rfl rfl (Nat.le_of_ble_eq_true rfl) (Nat.zero_le _) (sp_X9_throwing  (kq.v ?_))
    refine Z_retI dX9_order_25 (rf_i rfl) ?_
    exact h1 (by omega)
  · skip
    have h00 := hI.2.1
    refine R_aload_n dX9_order_12 rfl rfl rfl ?_
    refine R_iload_n dX9_order_13 rfl rfl ?_
    refine R_cV1 0 dX9_order_14 rfl cv_X9_128 mh_get0 rfl rfl (Nat.le_of_ble_eq_true rfl) (Nat.zero_le _) (sp_X9_isStreet (by first | assumption | exact hI.1 _ | exact hI1.1 _ | exact hI2.1 _ | omega | (refine ⟨?_, ?_⟩ <;> omega)) (by first | assumption | exact hI.1 _ | exact hI1.1 _ | exact hI2.1 _ | omega | (refine ⟨?_, ?_⟩ <;> omega)) (kq.v ?_))
    refine Z_if_neB dX9_order_17 (tgt := 26) (by decide) (fun c_17 => ?_) (fun c_17 => ?_)
    · skip
      have h00 := hI.2.1
      have hb : 0 ≤ noOrdF τ q k ∧ noOrdF τ q k ≤ 4 := by unfold noOrdF; (repeat' split) <;> omega
      refine R_aload_n dX9_order_26 rfl rfl rfl ?_
      refine R_iload_n dX9_order_27 rfl rfl ?_
      refine R_iload_n dX9_order_28 rfl rfl ?_
      refine R_cV2 0 dX9_order_29 rfl cv_X9_140 mh_get0 rfl rfl (Nat.le_of_ble_eq_true rfl) (Nat.zero_le _) (sp_X9_noOrder (by first | assumption | exact hI.1 _ | exact hI1.1 _ | exact hI2.1 _ | omega | (refine ⟨?_, ?_⟩ <;> omega)) (by first | assumption | exact hI.1 _ | exact hI1.1 _ | exact hI2.1 _ | omega | (refine ⟨?_, ?_⟩ <;> omega)) (by first | assumption | exact hI.1 _ | exact hI1.1 _ | exact hI2.1 _ | omega | (refine ⟨?_, ?_⟩ <;> omega)) (kq.v ?_))
      refine Z_if_eq dX9_order_32 (by first | exact hI.1 _ | assumption | exact hI1.1 _ | exact hI2.1 _ | exact ⟨by omega, by omega⟩) (tgt := 41) (by decide) (fun c_32 => ?_) (fun c_32 => ?_)
      · skip
        refine R_aload_n dX9_order_41 rfl rfl rfl ?_
        refine R_cV0 0 dX9_order_42 rfl cv_X9_125 mh_get0 rfl rfl (Nat.le_of_ble_eq_true rfl) (Nat.zero_le _) (sp_X9_save (by first | assumption | exact hI.1 _ | exact hI1.1 _ | exact hI2.1 _ | omega | (refine ⟨?_, ?_⟩ <;> omega)) (kq.n ?_))
        refine R_aload_n dX9_order_45 rfl rfl rfl ?_
        refine R_iload_n dX9_order_46 rfl rfl ?_
        refine R_iconst dX9_order_47 (v := zI (2)) rfl ?_
        refine R_iload_n dX9_order_48 rfl rfl ?_
        refine R_cV3 0 dX9_order_49 rfl cv_X9_31 mh_get0 rfl rfl (Nat.le_of_ble_eq_true rfl) (Nat.zero_le _) (sp_X9_lay (by first | assumption | exact hI.1 _ | exact hI1.1 _ | exact hI2.1 _ | omega | (refine ⟨?_, ?_⟩ <;> omega)) (kq.n ?_))
        refine R_aload_n dX9_order_52 rfl rfl rfl ?_
        refine R_iload_n dX9_order_53 rfl rfl ?_
        refine R_cV1 0 dX9_order_54 rfl cv_X9_91 mh_get0 rfl rfl (Nat.le_of_ble_eq_true rfl) (Nat.zero_le _) (sp_X9_to (by first | assumption | exact hI.1 _ | exact hI1.1 _ | exact hI2.1 _ | omega | (refine ⟨?_, ?_⟩ <;> omega)) (kq.v ?_))
        refine Z_retI dX9_order_57 (rf_i rfl) ?_
        exact h3 (by omega) (by omega)
      · skip
        refine R_aload_n dX9_order_35 rfl rfl rfl ?_
        refine R_iconst dX9_order_36 (v := zI (2)) rfl ?_
        refine R_cV1 0 dX9_order_37 rfl cv_X9_122 mh_get0 rfl rfl (Nat.le_of_ble_eq_true rfl) (Nat.zero_le _) (sp_X9_throwing  (kq.v ?_))
        refine Z_retI dX9_order_40 (rf_i rfl) ?_
        exact h2 (by omega) (by omega)
    · skip
      refine R_aload_n dX9_order_20 rfl rfl rfl ?_
      refine R_iconst dX9_order_21 (v := zI (1)) rfl ?_
      refine R_cV1 0 dX9_order_22 rfl cv_X9_122 mh_get0 rfl rfl (Nat.le_of_ble_eq_true rfl) (Nat.zero_le _) (sp_X9_throwing  (kq.v ?_))
      refine Z_retI dX9_order_25 (rf_i rfl) ?_
      exact h1 (by omega)

theorem sp_X9_takeBack {Ω : Wd} {d r : Nat} {Q : Hp → Out → Prop} {b : Nat} {h0 : Hp} {σ : St} {q : Int} (hI : MI σ) (hq : rg q) (h1 : ¬ (0 ≤ q ∧ q ≤ 3) → Q (mh b h0 (us σ 703 1)) (.inl (some (.int (zI 0))))) (h2 : (0 ≤ q ∧ q ≤ 3) → Q (mh b h0 (us (savF (us σ 703 0)) (97 + 5 * q + 2) (-1))) (.inl (some (.int (zI (b2i (¬ savF (us σ 703 0) (97 + 5 * q + 2) = -1))))))) : Ok Ω M_X9_takeBack (d + 2) r [.ref b, .int (zI q)] (mh b h0 (σ)) Q := by
  refine Ok.of (by decide) rfl (Nat.le_of_ble_eq_true rfl) rfl ?_
  have hI2 : MI (us σ 703 0) := MI_free hI (by omega) (by decide)
  have hI1 : MI (savF (us σ 703 0)) := savF_MI hI2
  refine R_aload_n dX9_takeBack_0 rfl rfl rfl ?_
  refine R_iload_n dX9_takeBack_1 rfl rfl ?_
  refine R_cS1 0 dX9_takeBack_2 rfl cs_X9_134 (Nat.le_of_ble_eq_true rfl) (Nat.zero_le _) (sp_X9_isCourier (by first | assumption | exact hI.1 _ | exact hI1.1 _ | exact hI2.1 _ | omega | (refine ⟨?_, ?_⟩ <;> omega)) (kq.v ?_))
  refine Z_if_eqB dX9_takeBack_5 (tgt := 12) (by decide) (fun c_5 => ?_) (fun c_5 => ?_)
  · skip
    refine R_iconst dX9_takeBack_12 (v := zI (1)) rfl ?_
    refine Zm_pf7 dX9_takeBack_13 pf_X9_38 ?_
    refine R_aload_n dX9_takeBack_16 rfl rfl rfl ?_
    refine Zm_gf dX9_takeBack_17 gf_X9_38 rfl ?_
    refine Z_if_le dX9_takeBack_20 (by rw [us_eq]; decide) (tgt := 25) (by decide) (fun c_20 => absurd c_20 (by rw [us_eq]; decide)) (fun c_20 => ?_)
    refine R_iconst dX9_takeBack_23 (v := zI (0)) rfl ?_
    refine Z_retI dX9_takeBack_24 (rf01 rfl (by omega)) ?_
    exact h1 (by omega)
  · skip
    refine R_iconst dX9_takeBack_8 (v := zI (0)) rfl ?_
    refine R_goto dX9_takeBack_9 (tgt := 13) (by decide) ?_
    refine Zm_pf7 dX9_takeBack_13 pf_X9_38 ?_
    refine R_aload_n dX9_takeBack_16 rfl rfl rfl ?_
    refine Zm_gf dX9_takeBack_17 gf_X9_38 rfl ?_
    refine Z_if_le dX9_takeBack_20 (by rw [us_eq]; decide) (tgt := 25) (by decide) (fun c_20 => ?_) (fun c_20 => absurd c_20 (by rw [us_eq]; decide))
    refine R_aload_n dX9_takeBack_25 rfl rfl rfl ?_
    refine R_cV0 0 dX9_takeBack_26 rfl cv_X9_125 mh_get0 rfl rfl (Nat.le_of_ble_eq_true rfl) (Nat.zero_le _) (sp_X9_save hI2 (kq.n ?_))
    refine z_joinB (¬ savF (us σ 703 0) (97 + 5 * q + 2) = -1) 44 ?_ (fun jt_29 jf_29 => ?_)
    · skip
      refine R_istore_n dX9_takeBack_44 rfl (by decide) rfl rfl ?_
      refine R_aload_n dX9_takeBack_45 rfl rfl rfl ?_
      refine R_iload_n dX9_takeBack_46 rfl rfl ?_
      refine R_iconst dX9_takeBack_47 (v := zI (2)) rfl ?_
      refine R_iconst dX9_takeBack_48 (v := zI (-1)) rfl ?_
      refine R_cV3 0 dX9_takeBack_49 rfl cv_X9_31 mh_get0 rfl rfl (Nat.le_of_ble_eq_true rfl) (Nat.zero_le _) (sp_X9_lay (by first | assumption | exact hI.1 _ | exact hI1.1 _ | exact hI2.1 _ | omega | (refine ⟨?_, ?_⟩ <;> omega)) (kq.n ?_))
      refine R_iload_n dX9_takeBack_52 rfl rfl ?_
      refine Z_retI dX9_takeBack_53 (rfb rfl) ?_
      exact h2 (by omega)
    · skip
      refine R_aload_n dX9_takeBack_29 rfl rfl rfl ?_
      refine R_iload_n dX9_takeBack_30 rfl rfl ?_
      refine R_iconst dX9_takeBack_31 (v := zI (2)) rfl ?_
      refine R_cV2 0 dX9_takeBack_32 rfl cv_X9_53 mh_get0 rfl rfl (Nat.le_of_ble_eq_true rfl) (Nat.zero_le _) (sp_X9_of (by first | assumption | exact hI.1 _ | exact hI1.1 _ | exact hI2.1 _ | omega | (refine ⟨?_, ?_⟩ <;> omega)) (kq.v ?_))
      refine R_iconst dX9_takeBack_35 (v := zI (-1)) rfl ?_
      refine Z_icmp_eq dX9_takeBack_36 (by first | exact hI.1 _ | assumption | exact hI1.1 _ | exact hI2.1 _ | exact ⟨by omega, by omega⟩) (by first | exact hI.1 _ | assumption | exact hI1.1 _ | exact hI2.1 _ | exact ⟨by omega, by omega⟩) (tgt := 43) (by decide) (fun c_36 => ?_) (fun c_36 => ?_)
      · skip
        refine R_iconst dX9_takeBack_43 (v := zI (0)) rfl ?_
        exact jf_29 (by first | assumption | omega | grind | (simp [*]; done) | (simp_all; done))
      · skip
        refine R_iconst dX9_takeBack_39 (v := zI (1)) rfl ?_
        refine R_goto dX9_takeBack_40 (tgt := 44) (by decide) ?_
        exact jt_29 (by first | assumption | omega | grind | (simp [*]; done) | (simp_all; done))

theorem sp_X9_turn {Ω : Wd} {d r : Nat} {Q : Hp → Out → Prop} {b : Nat} {h0 : Hp} {σ : St} {τ : St} (hτ : us σ 703 0 = τ) (hI : MI τ) (hE : overF τ = 0 → turnE (savF τ)) (h1 : ¬ overF τ = 0 → Q (mh b h0 (us τ 703 1)) (.inl (some (.int (zI 0))))) (h2 : overF τ = 0 → Q (mh b h0 (turnF (savF τ))) (.inl (some (.int (zI (movedF (savF τ))))))) : Ok Ω M_X9_turn (d + 5) r [.ref b] (mh b h0 (σ)) Q := by
  refine Ok.of (by decide) rfl (Nat.le_of_ble_eq_true rfl) rfl ?_
  refine R_aload_n dX9_turn_0 rfl rfl rfl ?_
  refine R_iconst dX9_turn_1 (v := zI (0)) rfl ?_
  refine Zm_pf7 dX9_turn_2 pf_X9_38 ?_
  rw [hτ]
  refine R_aload_n dX9_turn_5 rfl rfl rfl ?_
  refine R_cV0 0 dX9_turn_6 rfl cv_X9_74 mh_get0 rfl rfl (Nat.le_of_ble_eq_true rfl) (Nat.zero_le _) (sp_X9_over (by first | assumption | exact hI.1 _ | exact hI1.1 _ | exact hI2.1 _ | omega | (refine ⟨?_, ?_⟩ <;> omega)) (kq.v ?_))
  have hb := overF_bd τ
  refine Z_if_eq dX9_turn_9 (by first | exact hI.1 _ | assumption | exact hI1.1 _ | exact hI2.1 _ | exact ⟨by omega, by omega⟩) (tgt := 18) (by decide) (fun c_9 => ?_) (fun c_9 => ?_)
  · skip
    refine R_aload_n dX9_turn_18 rfl rfl rfl ?_
    refine R_cV0 0 dX9_turn_19 rfl cv_X9_125 mh_get0 rfl rfl (Nat.le_of_ble_eq_true rfl) (Nat.zero_le _) (sp_X9_save (by first | assumption | exact hI.1 _ | exact hI1.1 _ | exact hI2.1 _ | omega | (refine ⟨?_, ?_⟩ <;> omega)) (kq.n ?_))
    refine R_aload_n dX9_turn_22 rfl rfl rfl ?_
    refine R_cV0 0 dX9_turn_23 rfl cv_X9_143 mh_get0 rfl rfl (Nat.le_of_ble_eq_true rfl) (Nat.zero_le _) (sp_X9_turns (savF_MI hI) (hE (by omega)) (kq.v ?_))
    refine Z_retI dX9_turn_26 (rf_i rfl) ?_
    exact h2 (by omega)
  · skip
    refine R_aload_n dX9_turn_12 rfl rfl rfl ?_
    refine R_iconst dX9_turn_13 (v := zI (1)) rfl ?_
    refine R_cV1 0 dX9_turn_14 rfl cv_X9_122 mh_get0 rfl rfl (Nat.le_of_ble_eq_true rfl) (Nat.zero_le _) (sp_X9_throwing  (kq.v ?_))
    refine Z_retI dX9_turn_17 (rf_i rfl) ?_
    exact h1 (by omega)

theorem sp_X9_append {Ω : Wd} {d r : Nat} {Q : Hp → Out → Prop} {b : Nat} {h0 : Hp} {σ : St} {v : Int} {τ : St} (hτ : us σ 703 0 = τ) (hI : MI τ) (hv : rg v) (h1 : ¬ (33 ≤ v ∧ v ≤ 126) → Q (mh b h0 (us τ 703 1)) (.inl (some (.int (zI 0))))) (h2 : (33 ≤ v ∧ v ≤ 126) → τ 702 = 60 → Q (mh b h0 (us τ 703 2)) (.inl (some (.int (zI 0))))) (h3 : (33 ≤ v ∧ v ≤ 126) → ¬ τ 702 = 60 → Q (mh b h0 (us (us τ (600 + τ 702) v) 702 (us τ (600 + τ 702) v 702 + 1))) (.inl (some (.int (zI (τ 702 + 1)))))) : Ok Ω M_X9_append (d + 1) r [.ref b, .int (zI v)] (mh b h0 (σ)) Q := by
  refine Ok.of (by decide) rfl (Nat.le_of_ble_eq_true rfl) rfl ?_
  refine R_aload_n dX9_append_0 rfl rfl rfl ?_
  refine R_iconst dX9_append_1 (v := zI (0)) rfl ?_
  refine Zm_pf7 dX9_append_2 pf_X9_38 ?_
  rw [hτ]
  refine R_iload_n dX9_append_5 rfl rfl ?_
  refine R_bipush dX9_append_6 (v := zI (33)) rfl ?_
  refine R_bipush dX9_append_8 (v := zI (126)) rfl ?_
  refine R_cS3 0 dX9_append_10 rfl cs_X9_42 (Nat.le_of_ble_eq_true rfl) (Nat.zero_le _) (sp_X9_in (by first | assumption | exact hI.1 _ | exact hI1.1 _ | exact hI2.1 _ | omega | (refine ⟨?_, ?_⟩ <;> omega)) (by first | assumption | exact hI.1 _ | exact hI1.1 _ | exact hI2.1 _ | omega | (refine ⟨?_, ?_⟩ <;> omega)) (by first | assumption | exact hI.1 _ | exact hI1.1 _ | exact hI2.1 _ | omega | (refine ⟨?_, ?_⟩ <;> omega)) (kq.v ?_))
  refine Z_if_neB dX9_append_13 (tgt := 22) (by decide) (fun c_13 => ?_) (fun c_13 => ?_)
  · skip
    have hl := hI.2.2.2.2.2.1
    refine R_aload_n dX9_append_22 rfl rfl rfl ?_
    refine Zm_gf dX9_append_23 gf_X9_146 rfl ?_
    refine R_bipush dX9_append_26 (v := zI (60)) rfl ?_
    refine Z_icmp_ne dX9_append_28 (by first | exact hI.1 _ | assumption | exact hI1.1 _ | exact hI2.1 _ | exact ⟨by omega, by omega⟩) (by first | exact hI.1 _ | assumption | exact hI1.1 _ | exact hI2.1 _ | exact ⟨by omega, by omega⟩) (tgt := 37) (by decide) (fun c_28 => ?_) (fun c_28 => ?_)
    · skip
      refine R_aload_n dX9_append_37 rfl rfl rfl ?_
      refine Zm_gf dX9_append_38 gf_X9_19 rfl ?_
      refine R_aload_n dX9_append_41 rfl rfl rfl ?_
      refine Zm_gf dX9_append_42 gf_X9_146 rfl ?_
      refine R_iload_n dX9_append_45 rfl rfl ?_
      refine Zm_st4 dX9_append_46 (by omega) ?_
      refine R_aload_n dX9_append_47 rfl rfl rfl ?_
      refine R_dup dX9_append_48 rfl ?_
      refine Zm_gf dX9_append_49 gf_X9_146 rfl ?_
      refine R_iconst dX9_append_52 (v := zI (1)) rfl ?_
      refine Z_iadd dX9_append_53 ?_
      refine Zm_pf6 dX9_append_54 pf_X9_146 ?_
      refine R_aload_n dX9_append_57 rfl rfl rfl ?_
      refine Zm_gf dX9_append_58 gf_X9_146 rfl ?_
      refine Z_retI dX9_append_61 (rf_i rfl) ?_
      refine mQi (h3 (by omega) (by omega)) rfl ?_
      show _ = us _ 702 _ 702
      rw [us_eq, us_ne (by omega)]
    · skip
      refine R_aload_n dX9_append_31 rfl rfl rfl ?_
      refine R_iconst dX9_append_32 (v := zI (2)) rfl ?_
      refine R_cV1 0 dX9_append_33 rfl cv_X9_122 mh_get0 rfl rfl (Nat.le_of_ble_eq_true rfl) (Nat.zero_le _) (sp_X9_throwing  (kq.v ?_))
      refine Z_retI dX9_append_36 (rf_i rfl) ?_
      exact h2 (by omega) (by omega)
  · skip
    refine R_aload_n dX9_append_16 rfl rfl rfl ?_
    refine R_iconst dX9_append_17 (v := zI (1)) rfl ?_
    refine R_cV1 0 dX9_append_18 rfl cv_X9_122 mh_get0 rfl rfl (Nat.le_of_ble_eq_true rfl) (Nat.zero_le _) (sp_X9_throwing  (kq.v ?_))
    refine Z_retI dX9_append_21 (rf_i rfl) ?_
    exact h1 (by omega)

theorem sp_X9_clearBuffer {Ω : Wd} {d r : Nat} {Q : Hp → Out → Prop} {b : Nat} {h0 : Hp} {σ : St} {τ : St} (hτ : us σ 703 0 = τ) (hQ : Q (mh b h0 (us τ 702 0)) (.inl (some (.int (zI (τ 702)))))) : Ok Ω M_X9_clearBuffer d r [.ref b] (mh b h0 (σ)) Q := by
  refine Ok.of (by decide) rfl (Nat.le_of_ble_eq_true rfl) rfl ?_
  refine R_aload_n dX9_clearBuffer_0 rfl rfl rfl ?_
  refine R_iconst dX9_clearBuffer_1 (v := zI (0)) rfl ?_
  refine Zm_pf7 dX9_clearBuffer_2 pf_X9_38 ?_
  rw [hτ]
  refine R_aload_n dX9_clearBuffer_5 rfl rfl rfl ?_
  refine Zm_gf dX9_clearBuffer_6 gf_X9_146 rfl ?_
  refine R_istore_n dX9_clearBuffer_9 rfl (by decide) rfl rfl ?_
  refine R_aload_n dX9_clearBuffer_10 rfl rfl rfl ?_
  refine R_iconst dX9_clearBuffer_11 (v := zI (0)) rfl ?_
  refine Zm_pf6 dX9_clearBuffer_12 pf_X9_146 ?_
  refine R_iload_n dX9_clearBuffer_15 rfl rfl ?_
  refine Z_retI dX9_clearBuffer_16 (rf_i rfl) ?_
  exact hQ

def undS (σ : St) : Nat → St
  | 0 => σ
  | n + 1 => us (undS σ n) (n : Int) (undS σ n (1000 + (299 * undS σ n 700 + (n : Int))))
def kepS (σ : St) : Nat → St
  | 0 => σ
  | n + 1 => us (kepS σ n) (300 + (n : Int)) (kepS σ n (n : Int))
def resS (σ : St) : Nat → St
  | 0 => σ
  | n + 1 => us (resS σ n) (n : Int) (resS σ n (300 + (n : Int)))
theorem undS_at (σ : St) (h : 0 ≤ σ 700) : ∀ (n : Nat) (q : Int), n ≤ 299 → undS σ n q = if 0 ≤ q ∧ q < n then σ (1000 + (299 * σ 700 + q)) else σ q
  | 0, q, _ => by rw [if_neg (by omega)]; rfl
  | n + 1, q, hn => by
    have e7 : undS σ n 700 = σ 700 := by rw [undS_at σ h n 700 (by omega), if_neg (by omega)]
    unfold undS
    rw [e7]
    by_cases e : q = (n : Int)
    · subst e
      rw [us_eq, undS_at σ h n _ (by omega), if_neg (by omega), if_pos (by omega)]
    · rw [us_ne e, undS_at σ h n q (by omega)]
      split
      · rw [if_pos (by omega)]
      · rw [if_neg (by omega)]
theorem kepS_at (σ : St) : ∀ (n : Nat) (q : Int), n ≤ 299 → kepS σ n q = if 300 ≤ q ∧ q < 300 + n then σ (q - 300) else σ q
  | 0, q, _ => by rw [if_neg (by omega)]; rfl
  | n + 1, q, hn => by
    unfold kepS
    by_cases e : q = 300 + (n : Int)
    · subst e
      rw [us_eq, kepS_at σ n _ (by omega), if_neg (by omega), if_pos (by omega)]
      congr 1; omega
    · rw [us_ne e, kepS_at σ n q (by omega)]
      split
      · rw [if_pos (by omega)]
      · rw [if_neg (by omega)]
theorem resS_at (σ : St) : ∀ (n : Nat) (q : Int), n ≤ 299 → resS σ n q = if 0 ≤ q ∧ q < n then σ (300 + q) else σ q
  | 0, q, _ => by rw [if_neg (by omega)]; rfl
  | n + 1, q, hn => by
    unfold resS
    by_cases e : q = (n : Int)
    · subst e
      rw [us_eq, resS_at σ n _ (by omega), if_neg (by omega), if_pos (by omega)]
    · rw [us_ne e, resS_at σ n q (by omega)]
      split
      · rw [if_pos (by omega)]
      · rw [if_neg (by omega)]
/-- the last state comes back -/
def undF (τ : St) : St := fun q => if 0 ≤ q ∧ q < 299 then τ (1000 + (299 * (τ 700 - 1) + q)) else if q = 700 then τ 700 - 1 else τ q
def kepF (τ : St) : St := fun q => if 300 ≤ q ∧ q < 599 then τ (q - 300) else if q = 701 then 1 else τ q
def resF (τ : St) : St := fun q => if 0 ≤ q ∧ q < 299 then τ (300 + q) else τ q

theorem lp_undo {Ω : Wd} {d r : Nat} {Q : Hp → Out → Prop} {b : Nat} {h0 : Hp} {σ : St}  (hk0 : 0 ≤ σ 700 ∧ σ 700 ≤ 4) : ∀ (k n : Nat), n + k = 299 → At Ω M_X9_undo (d + 1) r Q 64 [some (.ref b), none] [] (mh b h0 (undS σ 299)) → At Ω M_X9_undo (d + 1) r Q 30 [some (.ref b), some (.int (zI (((n : Nat) : Int))))] [] (mh b h0 (undS σ n)) := by
  intro k
  induction k with
  | zero =>
    intro n hn hX
    have hnN : n = 299 := by omega
    rw [hnN]
    refine R_iload_n dX9_undo_30 rfl rfl ?_
    refine R_sipush dX9_undo_31 (v := zI (299)) rfl ?_
    refine Z_icmp_ge dX9_undo_34 (by first | exact hI.1 _ | assumption | exact hI1.1 _ | exact hI2.1 _ | exact ⟨by omega, by omega⟩) (by first | exact hI.1 _ | assumption | exact hI1.1 _ | exact hI2.1 _ | exact ⟨by omega, by omega⟩) (tgt := 64) (by decide) (fun c_34 => ?_) (fun c_34 => absurd c_34 (by omega))
    exact At.dropS (L' := [some (.ref b), none]) ⟨rfl, trivial⟩ hX
  | succ k ih =>
    intro n hn hX
    refine R_iload_n dX9_undo_30 rfl rfl ?_
    refine R_sipush dX9_undo_31 (v := zI (299)) rfl ?_
    refine Z_icmp_ge dX9_undo_34 (by first | exact hI.1 _ | assumption | exact hI1.1 _ | exact hI2.1 _ | exact ⟨by omega, by omega⟩) (by first | exact hI.1 _ | assumption | exact hI1.1 _ | exact hI2.1 _ | exact ⟨by omega, by omega⟩) (tgt := 64) (by decide) (fun c_34 => absurd c_34 (by omega)) (fun c_34 => ?_)
    have e7 : undS σ n 700 = σ 700 := by rw [undS_at σ hk0.1 n 700 (by omega), if_neg (by omega)]
    refine R_aload_n dX9_undo_37 rfl rfl rfl ?_
    refine Zm_gf dX9_undo_38 gf_X9_7 rfl ?_
    refine R_iload_n dX9_undo_41 rfl rfl ?_
    refine R_aload_n dX9_undo_42 rfl rfl rfl ?_
    refine Zm_gf dX9_undo_43 gf_X9_13 rfl ?_
    refine R_sipush dX9_undo_46 (v := zI (299)) rfl ?_
    refine R_aload_n dX9_undo_49 rfl rfl rfl ?_
    refine Zm_gf dX9_undo_50 gf_X9_46 rfl ?_
    refine Z_imul dX9_undo_53 ?_
    refine R_iload_n dX9_undo_54 rfl rfl ?_
    refine Z_iadd dX9_undo_55 ?_
    refine Zm_ld2 dX9_undo_56 (by omega) ?_
    refine Zm_st1 dX9_undo_57 (by omega) ?_
    refine Z_iinc dX9_undo_58 rfl (by decide) rfl rfl ?_
    refine R_goto dX9_undo_61 (tgt := 30) (by decide) ?_
    exact At.dropS (L' := [some (.ref b), some (.int (zI ((((n + 1) : Nat) : Int))))]) ⟨rfl, rfl, trivial⟩ (ih (n + 1) (by omega) hX)

theorem sp_X9_undo {Ω : Wd} {d r : Nat} {Q : Hp → Out → Prop} {b : Nat} {h0 : Hp} {σ : St} {τ : St} (hτ : us σ 703 0 = τ) (hk : 0 ≤ τ 700 ∧ τ 700 ≤ 5) (h1 : τ 700 = 0 → Q (mh b h0 (us τ 703 1)) (.inl (some (.int (zI 0))))) (h2 : ¬ τ 700 = 0 → Q (mh b h0 (undF τ)) (.inl (some (.int (zI (τ 700 - 1)))))) : Ok Ω M_X9_undo (d + 1) r [.ref b] (mh b h0 (σ)) Q := by
  refine Ok.of (by decide) rfl (Nat.le_of_ble_eq_true rfl) rfl ?_
  refine R_aload_n dX9_undo_0 rfl rfl rfl ?_
  refine R_iconst dX9_undo_1 (v := zI (0)) rfl ?_
  refine Zm_pf7 dX9_undo_2 pf_X9_38 ?_
  rw [hτ]
  refine R_aload_n dX9_undo_5 rfl rfl rfl ?_
  refine Zm_gf dX9_undo_6 gf_X9_46 rfl ?_
  refine Z_if_ne dX9_undo_9 (by first | exact hI.1 _ | assumption | exact hI1.1 _ | exact hI2.1 _ | exact ⟨by omega, by omega⟩) (tgt := 18) (by decide) (fun c_9 => ?_) (fun c_9 => ?_)
  · skip
    refine R_aload_n dX9_undo_18 rfl rfl rfl ?_
    refine R_dup dX9_undo_19 rfl ?_
    refine Zm_gf dX9_undo_20 gf_X9_46 rfl ?_
    refine R_iconst dX9_undo_23 (v := zI (1)) rfl ?_
    refine Z_isub dX9_undo_24 ?_
    refine Zm_pf2 dX9_undo_25 pf_X9_46 ?_
    have e7 : us τ 700 (τ 700 - 1) 700 = τ 700 - 1 := us_eq _ _ _
    refine R_iconst dX9_undo_28 (v := zI (0)) rfl ?_
    refine R_istore_n dX9_undo_29 rfl (by decide) rfl rfl ?_
    refine At.dropS (L' := [some (.ref b), some (.int (zI (((0 : Nat) : Int))))]) ⟨rfl, rfl, trivial⟩ (lp_undo (σ := us τ 700 (τ 700 - 1)) (by rw [e7]; omega) _ 0 (Nat.zero_add _) ?_)
    refine R_aload_n dX9_undo_64 rfl rfl rfl ?_
    refine Zm_gf dX9_undo_65 gf_X9_46 rfl ?_
    refine Z_retI dX9_undo_68 (rf_i rfl) ?_
    refine mQi (h2 (by omega)) ?_ ?_
    · funext q
      unfold undF
      rw [undS_at _ (by omega) 299 q (by omega), e7]
      by_cases hq : 0 ≤ q ∧ q < 299
      · rw [if_pos hq, if_pos (by omega), us_ne (by omega)]
      · rw [if_neg hq, if_neg (c := 0 ≤ q ∧ q < ((299 : Nat) : Int)) (by omega)]
        rfl
    · rw [undS_at _ (by omega) 299 700 (by omega), if_neg (by omega), e7]
  · skip
    refine R_aload_n dX9_undo_12 rfl rfl rfl ?_
    refine R_iconst dX9_undo_13 (v := zI (1)) rfl ?_
    refine R_cV1 0 dX9_undo_14 rfl cv_X9_122 mh_get0 rfl rfl (Nat.le_of_ble_eq_true rfl) (Nat.zero_le _) (sp_X9_throwing  (kq.v ?_))
    refine Z_retI dX9_undo_17 (rf_i rfl) ?_
    exact h1 (by omega)

theorem lp_keep {Ω : Wd} {d r : Nat} {Q : Hp → Out → Prop} {b : Nat} {h0 : Hp} {σ : St}   : ∀ (k n : Nat), n + k = 299 → At Ω M_X9_keep d r Q 32 [some (.ref b), none] [] (mh b h0 (kepS σ 299)) → At Ω M_X9_keep d r Q 7 [some (.ref b), some (.int (zI (((n : Nat) : Int))))] [] (mh b h0 (kepS σ n)) := by
  intro k
  induction k with
  | zero =>
    intro n hn hX
    have hnN : n = 299 := by omega
    rw [hnN]
    refine R_iload_n dX9_keep_7 rfl rfl ?_
    refine R_sipush dX9_keep_8 (v := zI (299)) rfl ?_
    refine Z_icmp_ge dX9_keep_11 (by first | exact hI.1 _ | assumption | exact hI1.1 _ | exact hI2.1 _ | exact ⟨by omega, by omega⟩) (by first | exact hI.1 _ | assumption | exact hI1.1 _ | exact hI2.1 _ | exact ⟨by omega, by omega⟩) (tgt := 32) (by decide) (fun c_11 => ?_) (fun c_11 => absurd c_11 (by omega))
    exact At.dropS (L' := [some (.ref b), none]) ⟨rfl, trivial⟩ hX
  | succ k ih =>
    intro n hn hX
    refine R_iload_n dX9_keep_7 rfl rfl ?_
    refine R_sipush dX9_keep_8 (v := zI (299)) rfl ?_
    refine Z_icmp_ge dX9_keep_11 (by first | exact hI.1 _ | assumption | exact hI1.1 _ | exact hI2.1 _ | exact ⟨by omega, by omega⟩) (by first | exact hI.1 _ | assumption | exact hI1.1 _ | exact hI2.1 _ | exact ⟨by omega, by omega⟩) (tgt := 32) (by decide) (fun c_11 => absurd c_11 (by omega)) (fun c_11 => ?_)
    refine R_aload_n dX9_keep_14 rfl rfl rfl ?_
    refine Zm_gf dX9_keep_15 gf_X9_16 rfl ?_
    refine R_iload_n dX9_keep_18 rfl rfl ?_
    refine R_aload_n dX9_keep_19 rfl rfl rfl ?_
    refine Zm_gf dX9_keep_20 gf_X9_7 rfl ?_
    refine R_iload_n dX9_keep_23 rfl rfl ?_
    refine Zm_ld1 dX9_keep_24 (by omega) ?_
    refine Zm_st3 dX9_keep_25 (by omega) ?_
    refine Z_iinc dX9_keep_26 rfl (by decide) rfl rfl ?_
    refine R_goto dX9_keep_29 (tgt := 7) (by decide) ?_
    exact At.dropS (L' := [some (.ref b), some (.int (zI ((((n + 1) : Nat) : Int))))]) ⟨rfl, rfl, trivial⟩ (ih (n + 1) (by omega) hX)

theorem sp_X9_keep {Ω : Wd} {d r : Nat} {Q : Hp → Out → Prop} {b : Nat} {h0 : Hp} {σ : St} {τ : St} (hτ : us σ 703 0 = τ) (hQ : Q (mh b h0 (kepF τ)) (.inl (some (.int (zI (τ 168)))))) : Ok Ω M_X9_keep d r [.ref b] (mh b h0 (σ)) Q := by
  refine Ok.of (by decide) rfl (Nat.le_of_ble_eq_true rfl) rfl ?_
  refine R_aload_n dX9_keep_0 rfl rfl rfl ?_
  refine R_iconst dX9_keep_1 (v := zI (0)) rfl ?_
  refine Zm_pf7 dX9_keep_2 pf_X9_38 ?_
  rw [hτ]
  refine R_iconst dX9_keep_5 (v := zI (0)) rfl ?_
  refine R_istore_n dX9_keep_6 rfl (by decide) rfl rfl ?_
  refine At.dropS (L' := [some (.ref b), some (.int (zI (((0 : Nat) : Int))))]) ⟨rfl, rfl, trivial⟩ (lp_keep (σ := τ) _ 0 (Nat.zero_add _) ?_)
  refine R_aload_n dX9_keep_32 rfl rfl rfl ?_
  refine R_iconst dX9_keep_33 (v := zI (1)) rfl ?_
  refine Zm_pf4 dX9_keep_34 pf_X9_170 (by omega) ?_
  refine R_aload_n dX9_keep_37 rfl rfl rfl ?_
  refine Zm_gf dX9_keep_38 gf_X9_7 rfl ?_
  refine R_sipush dX9_keep_41 (v := zI (168)) rfl ?_
  refine Zm_ld1 dX9_keep_44 (by omega) ?_
  refine Z_retI dX9_keep_45 (rf_i rfl) ?_
  refine mQi hQ ?_ ?_
  · funext q
    unfold kepF
    by_cases h7 : q = 701
    · subst h7
      rw [us_eq, if_neg (by omega), if_pos rfl]
    · rw [us_ne h7, kepS_at _ 299 q (by omega)]
      by_cases hq : 300 ≤ q ∧ q < 599
      · rw [if_pos hq, if_pos (by omega)]
      · rw [if_neg hq, if_neg h7, if_neg (by omega)]
  · rw [us_ne (by omega), kepS_at _ 299 168 (by omega), if_neg (by omega)]

theorem lp_restore {Ω : Wd} {d r : Nat} {Q : Hp → Out → Prop} {b : Nat} {h0 : Hp} {σ : St}   : ∀ (k n : Nat), n + k = 299 → At Ω M_X9_restore (d + 1) r Q 49 [some (.ref b), none] [] (mh b h0 (resS σ 299)) → At Ω M_X9_restore (d + 1) r Q 24 [some (.ref b), some (.int (zI (((n : Nat) : Int))))] [] (mh b h0 (resS σ n)) := by
  intro k
  induction k with
  | zero =>
    intro n hn hX
    have hnN : n = 299 := by omega
    rw [hnN]
    refine R_iload_n dX9_restore_24 rfl rfl ?_
    refine R_sipush dX9_restore_25 (v := zI (299)) rfl ?_
    refine Z_icmp_ge dX9_restore_28 (by first | exact hI.1 _ | assumption | exact hI1.1 _ | exact hI2.1 _ | exact ⟨by omega, by omega⟩) (by first | exact hI.1 _ | assumption | exact hI1.1 _ | exact hI2.1 _ | exact ⟨by omega, by omega⟩) (tgt := 49) (by decide) (fun c_28 => ?_) (fun c_28 => absurd c_28 (by omega))
    exact At.dropS (L' := [some (.ref b), none]) ⟨rfl, trivial⟩ hX
  | succ k ih =>
    intro n hn hX
    refine R_iload_n dX9_restore_24 rfl rfl ?_
    refine R_sipush dX9_restore_25 (v := zI (299)) rfl ?_
    refine Z_icmp_ge dX9_restore_28 (by first | exact hI.1 _ | assumption | exact hI1.1 _ | exact hI2.1 _ | exact ⟨by omega, by omega⟩) (by first | exact hI.1 _ | assumption | exact hI1.1 _ | exact hI2.1 _ | exact ⟨by omega, by omega⟩) (tgt := 49) (by decide) (fun c_28 => absurd c_28 (by omega)) (fun c_28 => ?_)
    refine R_aload_n dX9_restore_31 rfl rfl rfl ?_
    refine Zm_gf dX9_restore_32 gf_X9_7 rfl ?_
    refine R_iload_n dX9_restore_35 rfl rfl ?_
    refine R_aload_n dX9_restore_36 rfl rfl rfl ?_
    refine Zm_gf dX9_restore_37 gf_X9_16 rfl ?_
    refine R_iload_n dX9_restore_40 rfl rfl ?_
    refine Zm_ld3 dX9_restore_41 (by omega) ?_
    refine Zm_st1 dX9_restore_42 (by omega) ?_
    refine Z_iinc dX9_restore_43 rfl (by decide) rfl rfl ?_
    refine R_goto dX9_restore_46 (tgt := 24) (by decide) ?_
    exact At.dropS (L' := [some (.ref b), some (.int (zI ((((n + 1) : Nat) : Int))))]) ⟨rfl, rfl, trivial⟩ (ih (n + 1) (by omega) hX)

theorem sp_X9_restore {Ω : Wd} {d r : Nat} {Q : Hp → Out → Prop} {b : Nat} {h0 : Hp} {σ : St} {τ : St} (hτ : us σ 703 0 = τ) (hI : MI τ) (h1 : τ 701 = 0 → Q (mh b h0 (us τ 703 1)) (.inl (some (.int (zI 0))))) (h2 : ¬ τ 701 = 0 → Q (mh b h0 (resF (savF τ))) (.inl (some (.int (zI (savF τ (300 + 168))))))) : Ok Ω M_X9_restore (d + 1) r [.ref b] (mh b h0 (σ)) Q := by
  refine Ok.of (by decide) rfl (Nat.le_of_ble_eq_true rfl) rfl ?_
  refine R_aload_n dX9_restore_0 rfl rfl rfl ?_
  refine R_iconst dX9_restore_1 (v := zI (0)) rfl ?_
  refine Zm_pf7 dX9_restore_2 pf_X9_38 ?_
  rw [hτ]
  refine R_aload_n dX9_restore_5 rfl rfl rfl ?_
  refine Zm_gf dX9_restore_6 gf_X9_170 rfl ?_
  refine Z_if_ne dX9_restore_9 (by first | exact hI.1 _ | assumption | exact hI1.1 _ | exact hI2.1 _ | exact ⟨by omega, by omega⟩) (tgt := 18) (by decide) (fun c_9 => ?_) (fun c_9 => ?_)
  · skip
    refine R_aload_n dX9_restore_18 rfl rfl rfl ?_
    refine R_cV0 0 dX9_restore_19 rfl cv_X9_125 mh_get0 rfl rfl (Nat.le_of_ble_eq_true rfl) (Nat.zero_le _) (sp_X9_save (by first | assumption | exact hI.1 _ | exact hI1.1 _ | exact hI2.1 _ | omega | (refine ⟨?_, ?_⟩ <;> omega)) (kq.n ?_))
    refine R_iconst dX9_restore_22 (v := zI (0)) rfl ?_
    refine R_istore_n dX9_restore_23 rfl (by decide) rfl rfl ?_
    refine At.dropS (L' := [some (.ref b), some (.int (zI (((0 : Nat) : Int))))]) ⟨rfl, rfl, trivial⟩ (lp_restore (σ := savF τ) _ 0 (Nat.zero_add _) ?_)
    refine R_aload_n dX9_restore_49 rfl rfl rfl ?_
    refine Zm_gf dX9_restore_50 gf_X9_7 rfl ?_
    refine R_sipush dX9_restore_53 (v := zI (168)) rfl ?_
    refine Zm_ld1 dX9_restore_56 (by omega) ?_
    refine Z_retI dX9_restore_57 (rf_i rfl) ?_
    refine mQi (h2 (by omega)) ?_ ?_
    · funext q
      unfold resF
      rw [resS_at _ 299 q (by omega)]
      rfl
    · rw [resS_at _ 299 168 (by omega), if_pos (by omega)]
  · skip
    refine R_aload_n dX9_restore_12 rfl rfl rfl ?_
    refine R_iconst dX9_restore_13 (v := zI (1)) rfl ?_
    refine R_cV1 0 dX9_restore_14 rfl cv_X9_122 mh_get0 rfl rfl (Nat.le_of_ble_eq_true rfl) (Nat.zero_le _) (sp_X9_throwing  (kq.v ?_))
    refine Z_retI dX9_restore_17 (rf_i rfl) ?_
    exact h1 (by omega)


