/-! the model: looks -/
set_option maxRecDepth 100000

theorem sp_X9_savedStates {Ω : Wd} {d r : Nat} {Q : Hp → Out → Prop} {b : Nat} {h0 : Hp} {σ : St} {τ : St} (hτ : us σ 703 0 = τ)  (hQ : Q (mh b h0 τ) (.inl (some (.int (zI (τ 700)))))) : Ok Ω M_X9_savedStates d r [.ref b] (mh b h0 (σ)) Q := by
  refine Ok.of (by decide) rfl (Nat.le_of_ble_eq_true rfl) rfl ?_
  refine R_aload_n dX9_savedStates_0 rfl rfl rfl ?_
  refine R_iconst dX9_savedStates_1 (v := zI (0)) rfl ?_
  refine Zm_pf7 dX9_savedStates_2 pf_X9_38 ?_
  rw [hτ]
  refine R_aload_n dX9_savedStates_5 rfl rfl rfl ?_
  refine Zm_gf dX9_savedStates_6 gf_X9_46 rfl ?_
  refine Z_retI dX9_savedStates_9 (rf_i rfl) ?_
  exact hQ


theorem sp_X9_streets {Ω : Wd} {d r : Nat} {Q : Hp → Out → Prop} {b : Nat} {h0 : Hp} {σ : St} {τ : St} (hτ : us σ 703 0 = τ)  (hQ : Q (mh b h0 τ) (.inl (some (.int (zI (τ 0)))))) : Ok Ω M_X9_streets d r [.ref b] (mh b h0 (σ)) Q := by
  refine Ok.of (by decide) rfl (Nat.le_of_ble_eq_true rfl) rfl ?_
  refine R_aload_n dX9_streets_0 rfl rfl rfl ?_
  refine R_iconst dX9_streets_1 (v := zI (0)) rfl ?_
  refine Zm_pf7 dX9_streets_2 pf_X9_38 ?_
  rw [hτ]
  refine R_aload_n dX9_streets_5 rfl rfl rfl ?_
  refine Zm_gf dX9_streets_6 gf_X9_7 rfl ?_
  refine R_iconst dX9_streets_9 (v := zI (0)) rfl ?_
  refine Zm_ld1 dX9_streets_10 (by omega) ?_
  refine Z_retI dX9_streets_11 (rf_i rfl) ?_
  exact hQ


theorem sp_X9_parcels {Ω : Wd} {d r : Nat} {Q : Hp → Out → Prop} {b : Nat} {h0 : Hp} {σ : St} {τ : St} (hτ : us σ 703 0 = τ)  (hQ : Q (mh b h0 τ) (.inl (some (.int (zI (τ 117)))))) : Ok Ω M_X9_parcels d r [.ref b] (mh b h0 (σ)) Q := by
  refine Ok.of (by decide) rfl (Nat.le_of_ble_eq_true rfl) rfl ?_
  refine R_aload_n dX9_parcels_0 rfl rfl rfl ?_
  refine R_iconst dX9_parcels_1 (v := zI (0)) rfl ?_
  refine Zm_pf7 dX9_parcels_2 pf_X9_38 ?_
  rw [hτ]
  refine R_aload_n dX9_parcels_5 rfl rfl rfl ?_
  refine Zm_gf dX9_parcels_6 gf_X9_7 rfl ?_
  refine R_bipush dX9_parcels_9 (v := zI (117)) rfl ?_
  refine Zm_ld1 dX9_parcels_11 (by omega) ?_
  refine Z_retI dX9_parcels_12 (rf_i rfl) ?_
  exact hQ


theorem sp_X9_turnsPassed {Ω : Wd} {d r : Nat} {Q : Hp → Out → Prop} {b : Nat} {h0 : Hp} {σ : St} {τ : St} (hτ : us σ 703 0 = τ)  (hQ : Q (mh b h0 τ) (.inl (some (.int (zI (τ 168)))))) : Ok Ω M_X9_turnsPassed d r [.ref b] (mh b h0 (σ)) Q := by
  refine Ok.of (by decide) rfl (Nat.le_of_ble_eq_true rfl) rfl ?_
  refine R_aload_n dX9_turnsPassed_0 rfl rfl rfl ?_
  refine R_iconst dX9_turnsPassed_1 (v := zI (0)) rfl ?_
  refine Zm_pf7 dX9_turnsPassed_2 pf_X9_38 ?_
  rw [hτ]
  refine R_aload_n dX9_turnsPassed_5 rfl rfl rfl ?_
  refine Zm_gf dX9_turnsPassed_6 gf_X9_7 rfl ?_
  refine R_sipush dX9_turnsPassed_9 (v := zI (168)) rfl ?_
  refine Zm_ld1 dX9_turnsPassed_12 (by omega) ?_
  refine Z_retI dX9_turnsPassed_13 (rf_i rfl) ?_
  exact hQ


theorem sp_X9_failedMoves {Ω : Wd} {d r : Nat} {Q : Hp → Out → Prop} {b : Nat} {h0 : Hp} {σ : St} {τ : St} (hτ : us σ 703 0 = τ)  (hQ : Q (mh b h0 τ) (.inl (some (.int (zI (τ 169)))))) : Ok Ω M_X9_failedMoves d r [.ref b] (mh b h0 (σ)) Q := by
  refine Ok.of (by decide) rfl (Nat.le_of_ble_eq_true rfl) rfl ?_
  refine R_aload_n dX9_failedMoves_0 rfl rfl rfl ?_
  refine R_iconst dX9_failedMoves_1 (v := zI (0)) rfl ?_
  refine Zm_pf7 dX9_failedMoves_2 pf_X9_38 ?_
  rw [hτ]
  refine R_aload_n dX9_failedMoves_5 rfl rfl rfl ?_
  refine Zm_gf dX9_failedMoves_6 gf_X9_7 rfl ?_
  refine R_sipush dX9_failedMoves_9 (v := zI (169)) rfl ?_
  refine Zm_ld1 dX9_failedMoves_12 (by omega) ?_
  refine Z_retI dX9_failedMoves_13 (rf_i rfl) ?_
  exact hQ


theorem sp_X9_whyOver {Ω : Wd} {d r : Nat} {Q : Hp → Out → Prop} {b : Nat} {h0 : Hp} {σ : St} {τ : St} (hτ : us σ 703 0 = τ) (hI : MI τ) (hQ : Q (mh b h0 τ) (.inl (some (.int (zI (overF τ)))))) : Ok Ω M_X9_whyOver (d + 4) r [.ref b] (mh b h0 (σ)) Q := by
  refine Ok.of (by decide) rfl (Nat.le_of_ble_eq_true rfl) rfl ?_
  refine R_aload_n dX9_whyOver_0 rfl rfl rfl ?_
  refine R_iconst dX9_whyOver_1 (v := zI (0)) rfl ?_
  refine Zm_pf7 dX9_whyOver_2 pf_X9_38 ?_
  rw [hτ]
  refine R_aload_n dX9_whyOver_5 rfl rfl rfl ?_
  refine R_cV0 0 dX9_whyOver_6 rfl cv_X9_74 mh_get0 rfl rfl (Nat.le_of_ble_eq_true rfl) (Nat.zero_le _) (sp_X9_over (by first | assumption | exact hI.1 _ | exact hI1.1 _ | exact hI2.1 _ | omega | (refine ⟨?_, ?_⟩ <;> omega)) (kq.v ?_))
  refine Z_retI dX9_whyOver_9 (rf_i rfl) ?_
  exact hQ


theorem sp_X9_positionsNoted {Ω : Wd} {d r : Nat} {Q : Hp → Out → Prop} {b : Nat} {h0 : Hp} {σ : St} {τ : St} (hτ : us σ 703 0 = τ) (hI : MI τ) (hQ : Q (mh b h0 τ) (.inl (some (.int (zI (unlF τ)))))) : Ok Ω M_X9_positionsNoted (d + 1) r [.ref b] (mh b h0 (σ)) Q := by
  refine Ok.of (by decide) rfl (Nat.le_of_ble_eq_true rfl) rfl ?_
  refine R_aload_n dX9_positionsNoted_0 rfl rfl rfl ?_
  refine R_iconst dX9_positionsNoted_1 (v := zI (0)) rfl ?_
  refine Zm_pf7 dX9_positionsNoted_2 pf_X9_38 ?_
  rw [hτ]
  refine R_aload_n dX9_positionsNoted_5 rfl rfl rfl ?_
  refine R_cV0 0 dX9_positionsNoted_6 rfl cv_X9_182 mh_get0 rfl rfl (Nat.le_of_ble_eq_true rfl) (Nat.zero_le _) (sp_X9_unlike (by first | assumption | exact hI.1 _ | exact hI1.1 _ | exact hI2.1 _ | omega | (refine ⟨?_, ?_⟩ <;> omega)) (kq.v ?_))
  refine Z_retI dX9_positionsNoted_9 (rf_i rfl) ?_
  exact hQ


theorem sp_X9_timesNoted {Ω : Wd} {d r : Nat} {Q : Hp → Out → Prop} {b : Nat} {h0 : Hp} {σ : St} {τ : St} (hτ : us σ 703 0 = τ) (hI : MI τ) (hQ : Q (mh b h0 τ) (.inl (some (.int (zI (timF τ (firF τ) (secF τ))))))) : Ok Ω M_X9_timesNoted (d + 3) r [.ref b] (mh b h0 (σ)) Q := by
  refine Ok.of (by decide) rfl (Nat.le_of_ble_eq_true rfl) rfl ?_
  have hb1 := firF_bd hI
  have hb2 := secF_bd hI
  refine R_aload_n dX9_timesNoted_0 rfl rfl rfl ?_
  refine R_iconst dX9_timesNoted_1 (v := zI (0)) rfl ?_
  refine Zm_pf7 dX9_timesNoted_2 pf_X9_38 ?_
  rw [hτ]
  refine R_aload_n dX9_timesNoted_5 rfl rfl rfl ?_
  refine R_aload_n dX9_timesNoted_6 rfl rfl rfl ?_
  refine R_cV0 0 dX9_timesNoted_7 rfl cv_X9_64 mh_get0 rfl rfl (Nat.le_of_ble_eq_true rfl) (Nat.zero_le _) (sp_X9_first (by first | assumption | exact hI.1 _ | exact hI1.1 _ | exact hI2.1 _ | omega | (refine ⟨?_, ?_⟩ <;> omega)) (kq.v ?_))
  refine R_aload_n dX9_timesNoted_10 rfl rfl rfl ?_
  refine R_cV0 0 dX9_timesNoted_11 rfl cv_X9_68 mh_get0 rfl rfl (Nat.le_of_ble_eq_true rfl) (Nat.zero_le _) (sp_X9_second (by first | assumption | exact hI.1 _ | exact hI1.1 _ | exact hI2.1 _ | omega | (refine ⟨?_, ?_⟩ <;> omega)) (kq.v ?_))
  refine R_cV2 0 dX9_timesNoted_14 rfl cv_X9_71 mh_get0 rfl rfl (Nat.le_of_ble_eq_true rfl) (Nat.zero_le _) (sp_X9_timesOf (by first | assumption | exact hI.1 _ | exact hI1.1 _ | exact hI2.1 _ | omega | (refine ⟨?_, ?_⟩ <;> omega)) (by first | assumption | exact hI.1 _ | exact hI1.1 _ | exact hI2.1 _ | omega | (refine ⟨?_, ?_⟩ <;> omega)) (by first | assumption | exact hI.1 _ | exact hI1.1 _ | exact hI2.1 _ | omega | (refine ⟨?_, ?_⟩ <;> omega)) (kq.v ?_))
  refine Z_retI dX9_timesNoted_17 (rf_i rfl) ?_
  exact hQ

theorem sp_X9_hasStopped {Ω : Wd} {d r : Nat} {Q : Hp → Out → Prop} {b : Nat} {h0 : Hp} {σ : St} {τ : St} (hτ : us σ 703 0 = τ) (hr : rg (τ 172)) (hQ : Q (mh b h0 τ) (.inl (some (.int (zI (b2i (τ 172 = 1))))))) : Ok Ω M_X9_hasStopped d r [.ref b] (mh b h0 (σ)) Q := by
  refine Ok.of (by decide) rfl (Nat.le_of_ble_eq_true rfl) rfl ?_
  refine R_aload_n dX9_hasStopped_0 rfl rfl rfl ?_
  refine R_iconst dX9_hasStopped_1 (v := zI (0)) rfl ?_
  refine Zm_pf7 dX9_hasStopped_2 pf_X9_38 ?_
  rw [hτ]
  refine R_aload_n dX9_hasStopped_5 rfl rfl rfl ?_
  refine Zm_gf dX9_hasStopped_6 gf_X9_7 rfl ?_
  refine R_sipush dX9_hasStopped_9 (v := zI (172)) rfl ?_
  refine Zm_ld1 dX9_hasStopped_12 (by omega) ?_
  refine R_iconst dX9_hasStopped_13 (v := zI (1)) rfl ?_
  refine Z_icmp_ne dX9_hasStopped_14 (by first | exact hI.1 _ | assumption | exact hI1.1 _ | exact hI2.1 _ | exact ⟨by omega, by omega⟩) (by first | exact hI.1 _ | assumption | exact hI1.1 _ | exact hI2.1 _ | exact ⟨by omega, by omega⟩) (tgt := 21) (by decide) (fun c_14 => ?_) (fun c_14 => ?_)
  · skip
    refine R_iconst dX9_hasStopped_21 (v := zI (0)) rfl ?_
    refine Z_retI dX9_hasStopped_22 (rf01 rfl (by omega)) ?_
    exact mQi hQ rfl (by first | exact b2i_1 (by omega) | exact b2i_0 (by omega))
  · skip
    refine R_iconst dX9_hasStopped_17 (v := zI (1)) rfl ?_
    refine R_goto dX9_hasStopped_18 (tgt := 22) (by decide) ?_
    refine Z_retI dX9_hasStopped_22 (rf01 rfl (by omega)) ?_
    exact mQi hQ rfl (by first | exact b2i_1 (by omega) | exact b2i_0 (by omega))

theorem sp_X9_stoppedPart {Ω : Wd} {d r : Nat} {Q : Hp → Out → Prop} {b : Nat} {h0 : Hp} {σ : St} {τ : St} (hτ : us σ 703 0 = τ) (hr : rg (τ 172)) (h1 : ¬ τ 172 = 1 → Q (mh b h0 (us τ 703 1)) (.inl (some (.int (zI 0))))) (h2 : τ 172 = 1 → Q (mh b h0 τ) (.inl (some (.int (zI (τ 173)))))) : Ok Ω M_X9_stoppedPart (d + 1) r [.ref b] (mh b h0 (σ)) Q := by
  refine Ok.of (by decide) rfl (Nat.le_of_ble_eq_true rfl) rfl ?_
  refine R_aload_n dX9_stoppedPart_0 rfl rfl rfl ?_
  refine R_iconst dX9_stoppedPart_1 (v := zI (0)) rfl ?_
  refine Zm_pf7 dX9_stoppedPart_2 pf_X9_38 ?_
  rw [hτ]
  refine R_aload_n dX9_stoppedPart_5 rfl rfl rfl ?_
  refine Zm_gf dX9_stoppedPart_6 gf_X9_7 rfl ?_
  refine R_sipush dX9_stoppedPart_9 (v := zI (172)) rfl ?_
  refine Zm_ld1 dX9_stoppedPart_12 (by omega) ?_
  refine R_iconst dX9_stoppedPart_13 (v := zI (1)) rfl ?_
  refine Z_icmp_ne dX9_stoppedPart_14 (by first | exact hI.1 _ | assumption | exact hI1.1 _ | exact hI2.1 _ | exact ⟨by omega, by omega⟩) (by first | exact hI.1 _ | assumption | exact hI1.1 _ | exact hI2.1 _ | exact ⟨by omega, by omega⟩) (tgt := 28) (by decide) (fun c_14 => ?_) (fun c_14 => ?_)
  · skip
    refine R_aload_n dX9_stoppedPart_28 rfl rfl rfl ?_
    refine R_iconst dX9_stoppedPart_29 (v := zI (1)) rfl ?_
    refine R_cV1 0 dX9_stoppedPart_30 rfl cv_X9_122 mh_get0 rfl rfl (Nat.le_of_ble_eq_true rfl) (Nat.zero_le _) (sp_X9_throwing  (kq.v ?_))
    refine Z_retI dX9_stoppedPart_33 (rf_i rfl) ?_
    first | exact h2 c_14 | exact h1 c_14
  · skip
    refine R_aload_n dX9_stoppedPart_17 rfl rfl rfl ?_
    refine Zm_gf dX9_stoppedPart_18 gf_X9_7 rfl ?_
    refine R_sipush dX9_stoppedPart_21 (v := zI (173)) rfl ?_
    refine Zm_ld1 dX9_stoppedPart_24 (by omega) ?_
    refine R_goto dX9_stoppedPart_25 (tgt := 33) (by decide) ?_
    refine Z_retI dX9_stoppedPart_33 (rf_i rfl) ?_
    first | exact h2 c_14 | exact h1 c_14

theorem sp_X9_fromOf {Ω : Wd} {d r : Nat} {Q : Hp → Out → Prop} {b : Nat} {h0 : Hp} {σ : St} {k : Int} {τ : St} (hτ : us σ 703 0 = τ) (hI : MI τ) (hk : rg k) (h1 : ¬ (0 ≤ k ∧ k < τ 0) → Q (mh b h0 (us τ 703 1)) (.inl (some (.int (zI 0))))) (h2 : (0 ≤ k ∧ k < τ 0) → Q (mh b h0 τ) (.inl (some (.int (zI (τ (1 + 4 * k))))))) : Ok Ω M_X9_fromOf (d + 2) r [.ref b, .int (zI k)] (mh b h0 (σ)) Q := by
  refine Ok.of (by decide) rfl (Nat.le_of_ble_eq_true rfl) rfl ?_
  have h00 := hI.2.1
  refine R_aload_n dX9_fromOf_0 rfl rfl rfl ?_
  refine R_iconst dX9_fromOf_1 (v := zI (0)) rfl ?_
  refine Zm_pf7 dX9_fromOf_2 pf_X9_38 ?_
  rw [hτ]
  refine R_aload_n dX9_fromOf_5 rfl rfl rfl ?_
  refine R_iload_n dX9_fromOf_6 rfl rfl ?_
  refine R_cV1 0 dX9_fromOf_7 rfl cv_X9_128 mh_get0 rfl rfl (Nat.le_of_ble_eq_true rfl) (Nat.zero_le _) (sp_X9_isStreet (by first | assumption | exact hI.1 _ | exact hI1.1 _ | exact hI2.1 _ | omega | (refine ⟨?_, ?_⟩ <;> omega)) (by first | assumption | exact hI.1 _ | exact hI1.1 _ | exact hI2.1 _ | omega | (refine ⟨?_, ?_⟩ <;> omega)) (kq.v ?_))
  refine Z_if_eqB dX9_fromOf_10 (tgt := 21) (by decide) (fun c_10 => ?_) (fun c_10 => ?_)
  · skip
    refine R_aload_n dX9_fromOf_21 rfl rfl rfl ?_
    refine R_iconst dX9_fromOf_22 (v := zI (1)) rfl ?_
    refine R_cV1 0 dX9_fromOf_23 rfl cv_X9_122 mh_get0 rfl rfl (Nat.le_of_ble_eq_true rfl) (Nat.zero_le _) (sp_X9_throwing  (kq.v ?_))
    refine Z_retI dX9_fromOf_26 (rf_i rfl) ?_
    first | exact h2 (by omega) | exact h1 (by omega)
  · skip
    refine R_aload_n dX9_fromOf_13 rfl rfl rfl ?_
    refine R_iload_n dX9_fromOf_14 rfl rfl ?_
    refine R_cV1 0 dX9_fromOf_15 rfl cv_X9_77 mh_get0 rfl rfl (Nat.le_of_ble_eq_true rfl) (Nat.zero_le _) (sp_X9_from (by first | assumption | exact hI.1 _ | exact hI1.1 _ | exact hI2.1 _ | omega | (refine ⟨?_, ?_⟩ <;> omega)) (kq.v ?_))
    refine R_goto dX9_fromOf_18 (tgt := 26) (by decide) ?_
    refine Z_retI dX9_fromOf_26 (rf_i rfl) ?_
    first | exact h2 (by omega) | exact h1 (by omega)

theorem sp_X9_toOf {Ω : Wd} {d r : Nat} {Q : Hp → Out → Prop} {b : Nat} {h0 : Hp} {σ : St} {k : Int} {τ : St} (hτ : us σ 703 0 = τ) (hI : MI τ) (hk : rg k) (h1 : ¬ (0 ≤ k ∧ k < τ 0) → Q (mh b h0 (us τ 703 1)) (.inl (some (.int (zI 0))))) (h2 : (0 ≤ k ∧ k < τ 0) → Q (mh b h0 τ) (.inl (some (.int (zI (τ (1 + 4 * k + 1))))))) : Ok Ω M_X9_toOf (d + 2) r [.ref b, .int (zI k)] (mh b h0 (σ)) Q := by
  refine Ok.of (by decide) rfl (Nat.le_of_ble_eq_true rfl) rfl ?_
  have h00 := hI.2.1
  refine R_aload_n dX9_toOf_0 rfl rfl rfl ?_
  refine R_iconst dX9_toOf_1 (v := zI (0)) rfl ?_
  refine Zm_pf7 dX9_toOf_2 pf_X9_38 ?_
  rw [hτ]
  refine R_aload_n dX9_toOf_5 rfl rfl rfl ?_
  refine R_iload_n dX9_toOf_6 rfl rfl ?_
  refine R_cV1 0 dX9_toOf_7 rfl cv_X9_128 mh_get0 rfl rfl (Nat.le_of_ble_eq_true rfl) (Nat.zero_le _) (sp_X9_isStreet (by first | assumption | exact hI.1 _ | exact hI1.1 _ | exact hI2.1 _ | omega | (refine ⟨?_, ?_⟩ <;> omega)) (by first | assumption | exact hI.1 _ | exact hI1.1 _ | exact hI2.1 _ | omega | (refine ⟨?_, ?_⟩ <;> omega)) (kq.v ?_))
  refine Z_if_eqB dX9_toOf_10 (tgt := 21) (by decide) (fun c_10 => ?_) (fun c_10 => ?_)
  · skip
    refine R_aload_n dX9_toOf_21 rfl rfl rfl ?_
    refine R_iconst dX9_toOf_22 (v := zI (1)) rfl ?_
    refine R_cV1 0 dX9_toOf_23 rfl cv_X9_122 mh_get0 rfl rfl (Nat.le_of_ble_eq_true rfl) (Nat.zero_le _) (sp_X9_throwing  (kq.v ?_))
    refine Z_retI dX9_toOf_26 (rf_i rfl) ?_
    first | exact h2 (by omega) | exact h1 (by omega)
  · skip
    refine R_aload_n dX9_toOf_13 rfl rfl rfl ?_
    refine R_iload_n dX9_toOf_14 rfl rfl ?_
    refine R_cV1 0 dX9_toOf_15 rfl cv_X9_91 mh_get0 rfl rfl (Nat.le_of_ble_eq_true rfl) (Nat.zero_le _) (sp_X9_to (by first | assumption | exact hI.1 _ | exact hI1.1 _ | exact hI2.1 _ | omega | (refine ⟨?_, ?_⟩ <;> omega)) (kq.v ?_))
    refine R_goto dX9_toOf_18 (tgt := 26) (by decide) ?_
    refine Z_retI dX9_toOf_26 (rf_i rfl) ?_
    first | exact h2 (by omega) | exact h1 (by omega)

theorem sp_X9_told {Ω : Wd} {d r : Nat} {Q : Hp → Out → Prop} {b : Nat} {h0 : Hp} {σ : St} {q w : Int} {τ : St} (hτ : us σ 703 0 = τ) (hq : rg q) (hw : 0 ≤ w ∧ w < 5) (h1 : ¬ (0 ≤ q ∧ q ≤ 3) → Q (mh b h0 (us τ 703 1)) (.inl (some (.int (zI 0))))) (h2 : (0 ≤ q ∧ q ≤ 3) → Q (mh b h0 τ) (.inl (some (.int (zI (τ (97 + 5 * q + w))))))) : Ok Ω M_X9_told (d + 2) r [.ref b, .int (zI q), .int (zI w)] (mh b h0 (σ)) Q := by
  refine Ok.of (by decide) rfl (Nat.le_of_ble_eq_true rfl) rfl ?_
  refine R_aload_n dX9_told_0 rfl rfl rfl ?_
  refine R_iconst dX9_told_1 (v := zI (0)) rfl ?_
  refine Zm_pf7 dX9_told_2 pf_X9_38 ?_
  rw [hτ]
  refine R_iload_n dX9_told_5 rfl rfl ?_
  refine R_cS1 0 dX9_told_6 rfl cs_X9_134 (Nat.le_of_ble_eq_true rfl) (Nat.zero_le _) (sp_X9_isCourier (by first | assumption | exact hI.1 _ | exact hI1.1 _ | exact hI2.1 _ | omega | (refine ⟨?_, ?_⟩ <;> omega)) (kq.v ?_))
  refine Z_if_eqB dX9_told_9 (tgt := 21) (by decide) (fun c_9 => ?_) (fun c_9 => ?_)
  · skip
    refine R_aload_n dX9_told_21 rfl rfl rfl ?_
    refine R_iconst dX9_told_22 (v := zI (1)) rfl ?_
    refine R_cV1 0 dX9_told_23 rfl cv_X9_122 mh_get0 rfl rfl (Nat.le_of_ble_eq_true rfl) (Nat.zero_le _) (sp_X9_throwing  (kq.v ?_))
    refine Z_retI dX9_told_26 (rf_i rfl) ?_
    first | exact h2 (by omega) | exact h1 (by omega)
  · skip
    refine R_aload_n dX9_told_12 rfl rfl rfl ?_
    refine R_iload_n dX9_told_13 rfl rfl ?_
    refine R_iload_n dX9_told_14 rfl rfl ?_
    refine R_cV2 0 dX9_told_15 rfl cv_X9_53 mh_get0 rfl rfl (Nat.le_of_ble_eq_true rfl) (Nat.zero_le _) (sp_X9_of (by first | assumption | exact hI.1 _ | exact hI1.1 _ | exact hI2.1 _ | omega | (refine ⟨?_, ?_⟩ <;> omega)) (kq.v ?_))
    refine R_goto dX9_told_18 (tgt := 26) (by decide) ?_
    refine Z_retI dX9_told_26 (rf_i rfl) ?_
    first | exact h2 (by omega) | exact h1 (by omega)

theorem sp_X9_loadOf {Ω : Wd} {d r : Nat} {Q : Hp → Out → Prop} {b : Nat} {h0 : Hp} {σ : St} {q : Int} {τ : St} (hτ : us σ 703 0 = τ) (hI : MI τ) (hq : rg q) (h1 : ¬ (0 ≤ q ∧ q ≤ 3) → Q (mh b h0 (us τ 703 1)) (.inl (some (.int (zI 0))))) (h2 : (0 ≤ q ∧ q ≤ 3) → Q (mh b h0 τ) (.inl (some (.int (zI (loadF τ q)))))) : Ok Ω M_X9_loadOf (d + 2) r [.ref b, .int (zI q)] (mh b h0 (σ)) Q := by
  refine Ok.of (by decide) rfl (Nat.le_of_ble_eq_true rfl) rfl ?_
  refine R_aload_n dX9_loadOf_0 rfl rfl rfl ?_
  refine R_iconst dX9_loadOf_1 (v := zI (0)) rfl ?_
  refine Zm_pf7 dX9_loadOf_2 pf_X9_38 ?_
  rw [hτ]
  refine R_iload_n dX9_loadOf_5 rfl rfl ?_
  refine R_cS1 0 dX9_loadOf_6 rfl cs_X9_134 (Nat.le_of_ble_eq_true rfl) (Nat.zero_le _) (sp_X9_isCourier (by first | assumption | exact hI.1 _ | exact hI1.1 _ | exact hI2.1 _ | omega | (refine ⟨?_, ?_⟩ <;> omega)) (kq.v ?_))
  refine Z_if_eqB dX9_loadOf_9 (tgt := 20) (by decide) (fun c_9 => ?_) (fun c_9 => ?_)
  · skip
    refine R_aload_n dX9_loadOf_20 rfl rfl rfl ?_
    refine R_iconst dX9_loadOf_21 (v := zI (1)) rfl ?_
    refine R_cV1 0 dX9_loadOf_22 rfl cv_X9_122 mh_get0 rfl rfl (Nat.le_of_ble_eq_true rfl) (Nat.zero_le _) (sp_X9_throwing  (kq.v ?_))
    refine Z_retI dX9_loadOf_25 (rf_i rfl) ?_
    first | exact h2 (by omega) | exact h1 (by omega)
  · skip
    refine R_aload_n dX9_loadOf_12 rfl rfl rfl ?_
    refine R_iload_n dX9_loadOf_13 rfl rfl ?_
    refine R_cV1 0 dX9_loadOf_14 rfl cv_X9_94 mh_get0 rfl rfl (Nat.le_of_ble_eq_true rfl) (Nat.zero_le _) (sp_X9_load (by first | assumption | exact hI.1 _ | exact hI1.1 _ | exact hI2.1 _ | omega | (refine ⟨?_, ?_⟩ <;> omega)) (by first | assumption | exact hI.1 _ | exact hI1.1 _ | exact hI2.1 _ | omega | (refine ⟨?_, ?_⟩ <;> omega)) (kq.v ?_))
    refine R_goto dX9_loadOf_17 (tgt := 25) (by decide) ?_
    refine Z_retI dX9_loadOf_25 (rf_i rfl) ?_
    first | exact h2 (by omega) | exact h1 (by omega)

theorem sp_X9_pointsOf {Ω : Wd} {d r : Nat} {Q : Hp → Out → Prop} {b : Nat} {h0 : Hp} {σ : St} {z : Int} {τ : St} (hτ : us σ 703 0 = τ) (hz : rg z) (h1 : ¬ (0 ≤ z ∧ z ≤ 1) → Q (mh b h0 (us τ 703 1)) (.inl (some (.int (zI 0))))) (h2 : (0 ≤ z ∧ z ≤ 1) → Q (mh b h0 τ) (.inl (some (.int (zI (τ (170 + z))))))) : Ok Ω M_X9_pointsOf (d + 1) r [.ref b, .int (zI z)] (mh b h0 (σ)) Q := by
  refine Ok.of (by decide) rfl (Nat.le_of_ble_eq_true rfl) rfl ?_
  refine R_aload_n dX9_pointsOf_0 rfl rfl rfl ?_
  refine R_iconst dX9_pointsOf_1 (v := zI (0)) rfl ?_
  refine Zm_pf7 dX9_pointsOf_2 pf_X9_38 ?_
  rw [hτ]
  refine R_iload_n dX9_pointsOf_5 rfl rfl ?_
  refine R_iconst dX9_pointsOf_6 (v := zI (0)) rfl ?_
  refine R_iconst dX9_pointsOf_7 (v := zI (1)) rfl ?_
  refine R_cS3 0 dX9_pointsOf_8 rfl cs_X9_42 (Nat.le_of_ble_eq_true rfl) (Nat.zero_le _) (sp_X9_in (by first | assumption | exact hI.1 _ | exact hI1.1 _ | exact hI2.1 _ | omega | (refine ⟨?_, ?_⟩ <;> omega)) (by first | assumption | exact hI.1 _ | exact hI1.1 _ | exact hI2.1 _ | omega | (refine ⟨?_, ?_⟩ <;> omega)) (by first | assumption | exact hI.1 _ | exact hI1.1 _ | exact hI2.1 _ | omega | (refine ⟨?_, ?_⟩ <;> omega)) (kq.v ?_))
  refine Z_if_eqB dX9_pointsOf_11 (tgt := 27) (by decide) (fun c_11 => ?_) (fun c_11 => ?_)
  · skip
    refine R_aload_n dX9_pointsOf_27 rfl rfl rfl ?_
    refine R_iconst dX9_pointsOf_28 (v := zI (1)) rfl ?_
    refine R_cV1 0 dX9_pointsOf_29 rfl cv_X9_122 mh_get0 rfl rfl (Nat.le_of_ble_eq_true rfl) (Nat.zero_le _) (sp_X9_throwing  (kq.v ?_))
    refine Z_retI dX9_pointsOf_32 (rf_i rfl) ?_
    first | exact h2 (by omega) | exact h1 (by omega)
  · skip
    refine R_aload_n dX9_pointsOf_14 rfl rfl rfl ?_
    refine Zm_gf dX9_pointsOf_15 gf_X9_7 rfl ?_
    refine R_sipush dX9_pointsOf_18 (v := zI (170)) rfl ?_
    refine R_iload_n dX9_pointsOf_21 rfl rfl ?_
    refine Z_iadd dX9_pointsOf_22 ?_
    refine Zm_ld1 dX9_pointsOf_23 (by omega) ?_
    refine R_goto dX9_pointsOf_24 (tgt := 32) (by decide) ?_
    refine Z_retI dX9_pointsOf_32 (rf_i rfl) ?_
    first | exact h2 (by omega) | exact h1 (by omega)

theorem sp_X9_pointsByParcels {Ω : Wd} {d r : Nat} {Q : Hp → Out → Prop} {b : Nat} {h0 : Hp} {σ : St} {z : Int} {τ : St} (hτ : us σ 703 0 = τ) (hz : rg z) (h1 : ¬ (0 ≤ z ∧ z ≤ 1) → Q (mh b h0 (us τ 703 1)) (.inl (some (.int (zI 0))))) (h2 : (0 ≤ z ∧ z ≤ 1) → Q (mh b h0 τ) (.inl (some (.int (zI (τ (170 + z))))))) : Ok Ω M_X9_pointsByParcels (d + 1) r [.ref b, .int (zI z)] (mh b h0 (σ)) Q := by
  refine Ok.of (by decide) rfl (Nat.le_of_ble_eq_true rfl) rfl ?_
  refine R_aload_n dX9_pointsByParcels_0 rfl rfl rfl ?_
  refine R_iconst dX9_pointsByParcels_1 (v := zI (0)) rfl ?_
  refine Zm_pf7 dX9_pointsByParcels_2 pf_X9_38 ?_
  rw [hτ]
  refine R_iload_n dX9_pointsByParcels_5 rfl rfl ?_
  refine R_iconst dX9_pointsByParcels_6 (v := zI (0)) rfl ?_
  refine R_iconst dX9_pointsByParcels_7 (v := zI (1)) rfl ?_
  refine R_cS3 0 dX9_pointsByParcels_8 rfl cs_X9_42 (Nat.le_of_ble_eq_true rfl) (Nat.zero_le _) (sp_X9_in (by first | assumption | exact hI.1 _ | exact hI1.1 _ | exact hI2.1 _ | omega | (refine ⟨?_, ?_⟩ <;> omega)) (by first | assumption | exact hI.1 _ | exact hI1.1 _ | exact hI2.1 _ | omega | (refine ⟨?_, ?_⟩ <;> omega)) (by first | assumption | exact hI.1 _ | exact hI1.1 _ | exact hI2.1 _ | omega | (refine ⟨?_, ?_⟩ <;> omega)) (kq.v ?_))
  refine Z_if_eqB dX9_pointsByParcels_11 (tgt := 27) (by decide) (fun c_11 => ?_) (fun c_11 => ?_)
  · skip
    refine R_aload_n dX9_pointsByParcels_27 rfl rfl rfl ?_
    refine R_iconst dX9_pointsByParcels_28 (v := zI (1)) rfl ?_
    refine R_cV1 0 dX9_pointsByParcels_29 rfl cv_X9_122 mh_get0 rfl rfl (Nat.le_of_ble_eq_true rfl) (Nat.zero_le _) (sp_X9_throwing  (kq.v ?_))
    refine Z_retI dX9_pointsByParcels_32 (rf_i rfl) ?_
    first | exact h2 (by omega) | exact h1 (by omega)
  · skip
    refine R_aload_n dX9_pointsByParcels_14 rfl rfl rfl ?_
    refine Zm_gf dX9_pointsByParcels_15 gf_X9_7 rfl ?_
    refine R_sipush dX9_pointsByParcels_18 (v := zI (170)) rfl ?_
    refine R_iload_n dX9_pointsByParcels_21 rfl rfl ?_
    refine Z_iadd dX9_pointsByParcels_22 ?_
    refine Zm_ld1 dX9_pointsByParcels_23 (by omega) ?_
    refine R_goto dX9_pointsByParcels_24 (tgt := 32) (by decide) ?_
    refine Z_retI dX9_pointsByParcels_32 (rf_i rfl) ?_
    first | exact h2 (by omega) | exact h1 (by omega)

def spotF (σ : St) (p : Int) : Int := if σ (118 + 6 * p + 4) = 0 then σ (118 + 6 * p + 0) else if σ (118 + 6 * p + 4) = 1 then σ (97 + 5 * σ (118 + 6 * p + 5) + 0) else σ (118 + 6 * p + 1)

theorem sp_X9_spot {Ω : Wd} {d r : Nat} {Q : Hp → Out → Prop} {b : Nat} {h0 : Hp} {σ : St} {p : Int} (hI : MI σ) (hp : 0 ≤ p ∧ p < 8) (hb : σ (118 + 6 * p + 4) = 1 → 0 ≤ σ (118 + 6 * p + 5) ∧ σ (118 + 6 * p + 5) < 4) (hQ : Q (mh b h0 (σ)) (.inl (some (.int (zI (spotF σ p)))))) : Ok Ω M_X9_spot (d + 1) r [.ref b, .int (zI p)] (mh b h0 (σ)) Q := by
  refine Ok.of (by decide) rfl (Nat.le_of_ble_eq_true rfl) rfl ?_
  refine R_aload_n dX9_spot_0 rfl rfl rfl ?_
  refine R_iload_n dX9_spot_1 rfl rfl ?_
  refine R_iconst dX9_spot_2 (v := zI (4)) rfl ?_
  refine R_cV2 0 dX9_spot_3 rfl cv_X9_49 mh_get0 rfl rfl (Nat.le_of_ble_eq_true rfl) (Nat.zero_le _) (sp_X9_has (by first | assumption | exact hI.1 _ | exact hI1.1 _ | exact hI2.1 _ | omega | (refine ⟨?_, ?_⟩ <;> omega)) (kq.v ?_))
  refine Z_if_ne dX9_spot_6 (by first | exact hI.1 _ | assumption | exact hI1.1 _ | exact hI2.1 _ | exact ⟨by omega, by omega⟩) (tgt := 18) (by decide) (fun c_6 => ?_) (fun c_6 => ?_)
  · skip
    refine R_aload_n dX9_spot_18 rfl rfl rfl ?_
    refine R_iload_n dX9_spot_19 rfl rfl ?_
    refine R_iconst dX9_spot_20 (v := zI (4)) rfl ?_
    refine R_cV2 0 dX9_spot_21 rfl cv_X9_49 mh_get0 rfl rfl (Nat.le_of_ble_eq_true rfl) (Nat.zero_le _) (sp_X9_has (by first | assumption | exact hI.1 _ | exact hI1.1 _ | exact hI2.1 _ | omega | (refine ⟨?_, ?_⟩ <;> omega)) (kq.v ?_))
    refine R_iconst dX9_spot_24 (v := zI (1)) rfl ?_
    refine Z_icmp_ne dX9_spot_25 (by first | exact hI.1 _ | assumption | exact hI1.1 _ | exact hI2.1 _ | exact ⟨by omega, by omega⟩) (by first | exact hI.1 _ | assumption | exact hI1.1 _ | exact hI2.1 _ | exact ⟨by omega, by omega⟩) (tgt := 42) (by decide) (fun c_25 => ?_) (fun c_25 => ?_)
    · skip
      refine R_aload_n dX9_spot_42 rfl rfl rfl ?_
      refine R_iload_n dX9_spot_43 rfl rfl ?_
      refine R_iconst dX9_spot_44 (v := zI (1)) rfl ?_
      refine R_cV2 0 dX9_spot_45 rfl cv_X9_49 mh_get0 rfl rfl (Nat.le_of_ble_eq_true rfl) (Nat.zero_le _) (sp_X9_has (by first | assumption | exact hI.1 _ | exact hI1.1 _ | exact hI2.1 _ | omega | (refine ⟨?_, ?_⟩ <;> omega)) (kq.v ?_))
      refine Z_retI dX9_spot_48 (rf_i rfl) ?_
      exact mQi hQ rfl (by unfold spotF; first | (rw [if_pos (by omega)]; done) | (rw [if_neg (by omega), if_pos (by omega)]; done) | (rw [if_neg (by omega), if_neg (by omega)]; done))
    · skip
      have hb2 := hb (by omega)
      refine R_aload_n dX9_spot_28 rfl rfl rfl ?_
      refine R_aload_n dX9_spot_29 rfl rfl rfl ?_
      refine R_iload_n dX9_spot_30 rfl rfl ?_
      refine R_iconst dX9_spot_31 (v := zI (5)) rfl ?_
      refine R_cV2 0 dX9_spot_32 rfl cv_X9_49 mh_get0 rfl rfl (Nat.le_of_ble_eq_true rfl) (Nat.zero_le _) (sp_X9_has (by first | assumption | exact hI.1 _ | exact hI1.1 _ | exact hI2.1 _ | omega | (refine ⟨?_, ?_⟩ <;> omega)) (kq.v ?_))
      refine R_iconst dX9_spot_35 (v := zI (0)) rfl ?_
      refine R_cV2 0 dX9_spot_36 rfl cv_X9_53 mh_get0 rfl rfl (Nat.le_of_ble_eq_true rfl) (Nat.zero_le _) (sp_X9_of (by first | assumption | exact hI.1 _ | exact hI1.1 _ | exact hI2.1 _ | omega | (refine ⟨?_, ?_⟩ <;> omega)) (kq.v ?_))
      refine R_goto dX9_spot_39 (tgt := 48) (by decide) ?_
      refine Z_retI dX9_spot_48 (rf_i rfl) ?_
      exact mQi hQ rfl (by unfold spotF; first | (rw [if_pos (by omega)]; done) | (rw [if_neg (by omega), if_pos (by omega)]; done) | (rw [if_neg (by omega), if_neg (by omega)]; done))
  · skip
    refine R_aload_n dX9_spot_9 rfl rfl rfl ?_
    refine R_iload_n dX9_spot_10 rfl rfl ?_
    refine R_iconst dX9_spot_11 (v := zI (0)) rfl ?_
    refine R_cV2 0 dX9_spot_12 rfl cv_X9_49 mh_get0 rfl rfl (Nat.le_of_ble_eq_true rfl) (Nat.zero_le _) (sp_X9_has (by first | assumption | exact hI.1 _ | exact hI1.1 _ | exact hI2.1 _ | omega | (refine ⟨?_, ?_⟩ <;> omega)) (kq.v ?_))
    refine R_goto dX9_spot_15 (tgt := 48) (by decide) ?_
    refine Z_retI dX9_spot_48 (rf_i rfl) ?_
    exact mQi hQ rfl (by unfold spotF; first | (rw [if_pos (by omega)]; done) | (rw [if_neg (by omega), if_pos (by omega)]; done) | (rw [if_neg (by omega), if_neg (by omega)]; done))

/-- whoever carries or brought a parcel is a courier -/
abbrev byP (σ : St) : Prop := ∀ p : Int, 0 ≤ p ∧ p < σ 117 → σ (118 + 6 * p + 4) ≠ 0 → 0 ≤ σ (118 + 6 * p + 5)

theorem sp_X9_placeOf {Ω : Wd} {d r : Nat} {Q : Hp → Out → Prop} {b : Nat} {h0 : Hp} {σ : St} {p : Int} {τ : St} (hτ : us σ 703 0 = τ) (hI : MI τ) (hB : byP τ) (hp : rg p) (h1 : ¬ (0 ≤ p ∧ p < τ 117) → Q (mh b h0 (us τ 703 1)) (.inl (some (.int (zI 0))))) (h2 : (0 ≤ p ∧ p < τ 117) → Q (mh b h0 τ) (.inl (some (.int (zI (spotF τ p)))))) : Ok Ω M_X9_placeOf (d + 2) r [.ref b, .int (zI p)] (mh b h0 (σ)) Q := by
  refine Ok.of (by decide) rfl (Nat.le_of_ble_eq_true rfl) rfl ?_
  have h117 := hI.2.2.1
  refine R_aload_n dX9_placeOf_0 rfl rfl rfl ?_
  refine R_iconst dX9_placeOf_1 (v := zI (0)) rfl ?_
  refine Zm_pf7 dX9_placeOf_2 pf_X9_38 ?_
  rw [hτ]
  refine R_aload_n dX9_placeOf_5 rfl rfl rfl ?_
  refine R_iload_n dX9_placeOf_6 rfl rfl ?_
  refine R_cV1 0 dX9_placeOf_7 rfl cv_X9_176 mh_get0 rfl rfl (Nat.le_of_ble_eq_true rfl) (Nat.zero_le _) (sp_X9_isParcel (by first | assumption | exact hI.1 _ | exact hI1.1 _ | exact hI2.1 _ | omega | (refine ⟨?_, ?_⟩ <;> omega)) (by first | assumption | exact hI.1 _ | exact hI1.1 _ | exact hI2.1 _ | omega | (refine ⟨?_, ?_⟩ <;> omega)) (kq.v ?_))
  refine Z_if_eqB dX9_placeOf_10 (tgt := 21) (by decide) (fun c_10 => ?_) (fun c_10 => ?_)
  · skip
    refine R_aload_n dX9_placeOf_21 rfl rfl rfl ?_
    refine R_iconst dX9_placeOf_22 (v := zI (1)) rfl ?_
    refine R_cV1 0 dX9_placeOf_23 rfl cv_X9_122 mh_get0 rfl rfl (Nat.le_of_ble_eq_true rfl) (Nat.zero_le _) (sp_X9_throwing  (kq.v ?_))
    refine Z_retI dX9_placeOf_26 (rf_i rfl) ?_
    first | exact h2 (by omega) | exact h1 (by omega)
  · skip
    have hb1 := hI.2.2.2.2.2.2.2.2 p (by omega)
    refine R_aload_n dX9_placeOf_13 rfl rfl rfl ?_
    refine R_iload_n dX9_placeOf_14 rfl rfl ?_
    refine R_cV1 0 dX9_placeOf_15 rfl cv_X9_179 mh_get0 rfl rfl (Nat.le_of_ble_eq_true rfl) (Nat.zero_le _) (sp_X9_spot hI (by omega) (fun z => by have := hB p (by omega) (by omega); omega) (kq.v ?_))
    refine R_goto dX9_placeOf_18 (tgt := 26) (by decide) ?_
    refine Z_retI dX9_placeOf_26 (rf_i rfl) ?_
    first | exact h2 (by omega) | exact h1 (by omega)

theorem sp_X9_courierOf {Ω : Wd} {d r : Nat} {Q : Hp → Out → Prop} {b : Nat} {h0 : Hp} {σ : St} {p : Int} {τ : St} (hτ : us σ 703 0 = τ) (hI : MI τ) (hp : rg p) (h1 : ¬ (0 ≤ p ∧ p < τ 117) → Q (mh b h0 (us τ 703 1)) (.inl (some (.int (zI 0))))) (h2 : (0 ≤ p ∧ p < τ 117) → τ (118 + 6 * p + 4) = 0 → Q (mh b h0 (us τ 703 2)) (.inl (some (.int (zI 0))))) (h3 : (0 ≤ p ∧ p < τ 117) → ¬ τ (118 + 6 * p + 4) = 0 → Q (mh b h0 τ) (.inl (some (.int (zI (τ (118 + 6 * p + 5))))))) : Ok Ω M_X9_courierOf (d + 2) r [.ref b, .int (zI p)] (mh b h0 (σ)) Q := by
  refine Ok.of (by decide) rfl (Nat.le_of_ble_eq_true rfl) rfl ?_
  have h117 := hI.2.2.1
  refine R_aload_n dX9_courierOf_0 rfl rfl rfl ?_
  refine R_iconst dX9_courierOf_1 (v := zI (0)) rfl ?_
  refine Zm_pf7 dX9_courierOf_2 pf_X9_38 ?_
  rw [hτ]
  refine R_aload_n dX9_courierOf_5 rfl rfl rfl ?_
  refine R_iload_n dX9_courierOf_6 rfl rfl ?_
  refine R_cV1 0 dX9_courierOf_7 rfl cv_X9_176 mh_get0 rfl rfl (Nat.le_of_ble_eq_true rfl) (Nat.zero_le _) (sp_X9_isParcel (by first | assumption | exact hI.1 _ | exact hI1.1 _ | exact hI2.1 _ | omega | (refine ⟨?_, ?_⟩ <;> omega)) (by first | assumption | exact hI.1 _ | exact hI1.1 _ | exact hI2.1 _ | omega | (refine ⟨?_, ?_⟩ <;> omega)) (kq.v ?_))
  refine Z_if_neB dX9_courierOf_10 (tgt := 21) (by decide) (fun c_10 => ?_) (fun c_10 => ?_)
  · skip
    refine R_aload_n dX9_courierOf_21 rfl rfl rfl ?_
    refine R_iload_n dX9_courierOf_22 rfl rfl ?_
    refine R_iconst dX9_courierOf_23 (v := zI (4)) rfl ?_
    refine R_cV2 0 dX9_courierOf_24 rfl cv_X9_49 mh_get0 rfl rfl (Nat.le_of_ble_eq_true rfl) (Nat.zero_le _) (sp_X9_has (by first | assumption | exact hI.1 _ | exact hI1.1 _ | exact hI2.1 _ | omega | (refine ⟨?_, ?_⟩ <;> omega)) (kq.v ?_))
    refine Z_if_ne dX9_courierOf_27 (by first | exact hI.1 _ | assumption | exact hI1.1 _ | exact hI2.1 _ | exact ⟨by omega, by omega⟩) (tgt := 38) (by decide) (fun c_27 => ?_) (fun c_27 => ?_)
    · skip
      refine R_aload_n dX9_courierOf_38 rfl rfl rfl ?_
      refine R_iload_n dX9_courierOf_39 rfl rfl ?_
      refine R_iconst dX9_courierOf_40 (v := zI (5)) rfl ?_
      refine R_cV2 0 dX9_courierOf_41 rfl cv_X9_49 mh_get0 rfl rfl (Nat.le_of_ble_eq_true rfl) (Nat.zero_le _) (sp_X9_has (by first | assumption | exact hI.1 _ | exact hI1.1 _ | exact hI2.1 _ | omega | (refine ⟨?_, ?_⟩ <;> omega)) (kq.v ?_))
      refine Z_retI dX9_courierOf_44 (rf_i rfl) ?_
      first | exact h3 (by omega) (by omega) | exact h2 (by omega) (by omega) | exact h1 (by omega)
    · skip
      refine R_aload_n dX9_courierOf_30 rfl rfl rfl ?_
      refine R_iconst dX9_courierOf_31 (v := zI (2)) rfl ?_
      refine R_cV1 0 dX9_courierOf_32 rfl cv_X9_122 mh_get0 rfl rfl (Nat.le_of_ble_eq_true rfl) (Nat.zero_le _) (sp_X9_throwing  (kq.v ?_))
      refine R_goto dX9_courierOf_35 (tgt := 44) (by decide) ?_
      refine Z_retI dX9_courierOf_44 (rf_i rfl) ?_
      first | exact h3 (by omega) (by omega) | exact h2 (by omega) (by omega) | exact h1 (by omega)
  · skip
    refine R_aload_n dX9_courierOf_13 rfl rfl rfl ?_
    refine R_iconst dX9_courierOf_14 (v := zI (1)) rfl ?_
    refine R_cV1 0 dX9_courierOf_15 rfl cv_X9_122 mh_get0 rfl rfl (Nat.le_of_ble_eq_true rfl) (Nat.zero_le _) (sp_X9_throwing  (kq.v ?_))
    refine R_goto dX9_courierOf_18 (tgt := 44) (by decide) ?_
    refine Z_retI dX9_courierOf_44 (rf_i rfl) ?_
    first | exact h3 (by omega) (by omega) | exact h2 (by omega) (by omega) | exact h1 (by omega)

theorem sp_X9_isWaiting {Ω : Wd} {d r : Nat} {Q : Hp → Out → Prop} {b : Nat} {h0 : Hp} {σ : St} {p : Int} (hI : MI σ) (hp : rg p) (h1 : ¬ (0 ≤ p ∧ p < σ 117) → Q (mh b h0 (us σ 703 1)) (.inl (some (.int (zI 0))))) (h2 : (0 ≤ p ∧ p < σ 117) → Q (mh b h0 (us σ 703 0)) (.inl (some (.int (zI (b2i (us σ 703 0 (118 + 6 * p + 4) = 0))))))) : Ok Ω M_X9_isWaiting (d + 2) r [.ref b, .int (zI p)] (mh b h0 (σ)) Q := by
  refine Ok.of (by decide) rfl (Nat.le_of_ble_eq_true rfl) rfl ?_
  have h117 := hI.2.2.1
  have hI1 : MI (us σ 703 0) := MI_free hI (by omega) (by decide)
  refine R_aload_n dX9_isWaiting_0 rfl rfl rfl ?_
  refine R_aload_n dX9_isWaiting_1 rfl rfl rfl ?_
  refine R_iload_n dX9_isWaiting_2 rfl rfl ?_
  refine R_cV1 0 dX9_isWaiting_3 rfl cv_X9_176 mh_get0 rfl rfl (Nat.le_of_ble_eq_true rfl) (Nat.zero_le _) (sp_X9_isParcel (by first | assumption | exact hI.1 _ | exact hI1.1 _ | exact hI2.1 _ | omega | (refine ⟨?_, ?_⟩ <;> omega)) (by first | assumption | exact hI.1 _ | exact hI1.1 _ | exact hI2.1 _ | omega | (refine ⟨?_, ?_⟩ <;> omega)) (kq.v ?_))
  refine Z_if_eqB dX9_isWaiting_6 (tgt := 13) (by decide) (fun c_6 => ?_) (fun c_6 => ?_)
  · skip
    refine R_iconst dX9_isWaiting_13 (v := zI (1)) rfl ?_
    refine Zm_pf7 dX9_isWaiting_14 pf_X9_38 ?_
    refine R_aload_n dX9_isWaiting_17 rfl rfl rfl ?_
    refine Zm_gf dX9_isWaiting_18 gf_X9_38 rfl ?_
    refine Z_if_ne dX9_isWaiting_21 (by rw [us_eq]; decide) (tgt := 37) (by decide) (fun c_21 => ?_) (fun c_21 => absurd c_21 (by rw [us_eq]; decide))
    refine R_iconst dX9_isWaiting_37 (v := zI (0)) rfl ?_
    refine Z_retI dX9_isWaiting_38 (rf01 rfl (by omega)) ?_
    first | exact mQi (h2 (by omega)) rfl (b2i_1 (by omega)) | exact mQi (h2 (by omega)) rfl (b2i_0 (by omega)) | exact h1 (by omega)
  · skip
    refine R_iconst dX9_isWaiting_9 (v := zI (0)) rfl ?_
    refine R_goto dX9_isWaiting_10 (tgt := 14) (by decide) ?_
    refine Zm_pf7 dX9_isWaiting_14 pf_X9_38 ?_
    refine R_aload_n dX9_isWaiting_17 rfl rfl rfl ?_
    refine Zm_gf dX9_isWaiting_18 gf_X9_38 rfl ?_
    refine Z_if_ne dX9_isWaiting_21 (by rw [us_eq]; decide) (tgt := 37) (by decide) (fun c_21 => absurd c_21 (by rw [us_eq]; decide)) (fun c_21 => ?_)
    refine R_aload_n dX9_isWaiting_24 rfl rfl rfl ?_
    refine R_iload_n dX9_isWaiting_25 rfl rfl ?_
    refine R_iconst dX9_isWaiting_26 (v := zI (4)) rfl ?_
    refine R_cV2 0 dX9_isWaiting_27 rfl cv_X9_49 mh_get0 rfl rfl (Nat.le_of_ble_eq_true rfl) (Nat.zero_le _) (sp_X9_has (by first | assumption | exact hI.1 _ | exact hI1.1 _ | exact hI2.1 _ | omega | (refine ⟨?_, ?_⟩ <;> omega)) (kq.v ?_))
    refine Z_if_ne dX9_isWaiting_30 (by first | exact hI.1 _ | assumption | exact hI1.1 _ | exact hI2.1 _ | exact ⟨by omega, by omega⟩) (tgt := 37) (by decide) (fun c_30 => ?_) (fun c_30 => ?_)
    · skip
      refine R_iconst dX9_isWaiting_37 (v := zI (0)) rfl ?_
      refine Z_retI dX9_isWaiting_38 (rf01 rfl (by omega)) ?_
      first | exact mQi (h2 (by omega)) rfl (b2i_1 (by omega)) | exact mQi (h2 (by omega)) rfl (b2i_0 (by omega)) | exact h1 (by omega)
    · skip
      refine R_iconst dX9_isWaiting_33 (v := zI (1)) rfl ?_
      refine R_goto dX9_isWaiting_34 (tgt := 38) (by decide) ?_
      refine Z_retI dX9_isWaiting_38 (rf01 rfl (by omega)) ?_
      first | exact mQi (h2 (by omega)) rfl (b2i_1 (by omega)) | exact mQi (h2 (by omega)) rfl (b2i_0 (by omega)) | exact h1 (by omega)

theorem sp_X9_isDelivered {Ω : Wd} {d r : Nat} {Q : Hp → Out → Prop} {b : Nat} {h0 : Hp} {σ : St} {p : Int} (hI : MI σ) (hp : rg p) (h1 : ¬ (0 ≤ p ∧ p < σ 117) → Q (mh b h0 (us σ 703 1)) (.inl (some (.int (zI 0))))) (h2 : (0 ≤ p ∧ p < σ 117) → Q (mh b h0 (us σ 703 0)) (.inl (some (.int (zI (b2i (us σ 703 0 (118 + 6 * p + 4) = 2))))))) : Ok Ω M_X9_isDelivered (d + 2) r [.ref b, .int (zI p)] (mh b h0 (σ)) Q := by
  refine Ok.of (by decide) rfl (Nat.le_of_ble_eq_true rfl) rfl ?_
  have h117 := hI.2.2.1
  have hI1 : MI (us σ 703 0) := MI_free hI (by omega) (by decide)
  refine R_aload_n dX9_isDelivered_0 rfl rfl rfl ?_
  refine R_aload_n dX9_isDelivered_1 rfl rfl rfl ?_
  refine R_iload_n dX9_isDelivered_2 rfl rfl ?_
  refine R_cV1 0 dX9_isDelivered_3 rfl cv_X9_176 mh_get0 rfl rfl (Nat.le_of_ble_eq_true rfl) (Nat.zero_le _) (sp_X9_isParcel (by first | assumption | exact hI.1 _ | exact hI1.1 _ | exact hI2.1 _ | omega | (refine ⟨?_, ?_⟩ <;> omega)) (by first | assumption | exact hI.1 _ | exact hI1.1 _ | exact hI2.1 _ | omega | (refine ⟨?_, ?_⟩ <;> omega)) (kq.v ?_))
  refine Z_if_eqB dX9_isDelivered_6 (tgt := 13) (by decide) (fun c_6 => ?_) (fun c_6 => ?_)
  · skip
    refine R_iconst dX9_isDelivered_13 (v := zI (1)) rfl ?_
    refine Zm_pf7 dX9_isDelivered_14 pf_X9_38 ?_
    refine R_aload_n dX9_isDelivered_17 rfl rfl rfl ?_
    refine Zm_gf dX9_isDelivered_18 gf_X9_38 rfl ?_
    refine Z_if_ne dX9_isDelivered_21 (by rw [us_eq]; decide) (tgt := 38) (by decide) (fun c_21 => ?_) (fun c_21 => absurd c_21 (by rw [us_eq]; decide))
    refine R_iconst dX9_isDelivered_38 (v := zI (0)) rfl ?_
    refine Z_retI dX9_isDelivered_39 (rf01 rfl (by omega)) ?_
    first | exact mQi (h2 (by omega)) rfl (b2i_1 (by omega)) | exact mQi (h2 (by omega)) rfl (b2i_0 (by omega)) | exact h1 (by omega)
  · skip
    refine R_iconst dX9_isDelivered_9 (v := zI (0)) rfl ?_
    refine R_goto dX9_isDelivered_10 (tgt := 14) (by decide) ?_
    refine Zm_pf7 dX9_isDelivered_14 pf_X9_38 ?_
    refine R_aload_n dX9_isDelivered_17 rfl rfl rfl ?_
    refine Zm_gf dX9_isDelivered_18 gf_X9_38 rfl ?_
    refine Z_if_ne dX9_isDelivered_21 (by rw [us_eq]; decide) (tgt := 38) (by decide) (fun c_21 => absurd c_21 (by rw [us_eq]; decide)) (fun c_21 => ?_)
    refine R_aload_n dX9_isDelivered_24 rfl rfl rfl ?_
    refine R_iload_n dX9_isDelivered_25 rfl rfl ?_
    refine R_iconst dX9_isDelivered_26 (v := zI (4)) rfl ?_
    refine R_cV2 0 dX9_isDelivered_27 rfl cv_X9_49 mh_get0 rfl rfl (Nat.le_of_ble_eq_true rfl) (Nat.zero_le _) (sp_X9_has (by first | assumption | exact hI.1 _ | exact hI1.1 _ | exact hI2.1 _ | omega | (refine ⟨?_, ?_⟩ <;> omega)) (kq.v ?_))
    refine R_iconst dX9_isDelivered_30 (v := zI (2)) rfl ?_
    refine Z_icmp_ne dX9_isDelivered_31 (by first | exact hI.1 _ | assumption | exact hI1.1 _ | exact hI2.1 _ | exact ⟨by omega, by omega⟩) (by first | exact hI.1 _ | assumption | exact hI1.1 _ | exact hI2.1 _ | exact ⟨by omega, by omega⟩) (tgt := 38) (by decide) (fun c_31 => ?_) (fun c_31 => ?_)
    · skip
      refine R_iconst dX9_isDelivered_38 (v := zI (0)) rfl ?_
      refine Z_retI dX9_isDelivered_39 (rf01 rfl (by omega)) ?_
      first | exact mQi (h2 (by omega)) rfl (b2i_1 (by omega)) | exact mQi (h2 (by omega)) rfl (b2i_0 (by omega)) | exact h1 (by omega)
    · skip
      refine R_iconst dX9_isDelivered_34 (v := zI (1)) rfl ?_
      refine R_goto dX9_isDelivered_35 (tgt := 39) (by decide) ?_
      refine Z_retI dX9_isDelivered_39 (rf01 rfl (by omega)) ?_
      first | exact mQi (h2 (by omega)) rfl (b2i_1 (by omega)) | exact mQi (h2 (by omega)) rfl (b2i_0 (by omega)) | exact h1 (by omega)

theorem sp_X9_isOpen {Ω : Wd} {d r : Nat} {Q : Hp → Out → Prop} {b : Nat} {h0 : Hp} {σ : St} {k : Int} (hI : MI σ) (hk : rg k) (h1 : ¬ (0 ≤ k ∧ k < σ 0) → Q (mh b h0 (us σ 703 1)) (.inl (some (.int (zI 0))))) (h2 : (0 ≤ k ∧ k < σ 0) → Q (mh b h0 (us σ 703 0)) (.inl (some (.int (zI (b2i (us σ 703 0 (1 + 4 * k + 3) = 1))))))) : Ok Ω M_X9_isOpen (d + 2) r [.ref b, .int (zI k)] (mh b h0 (σ)) Q := by
  refine Ok.of (by decide) rfl (Nat.le_of_ble_eq_true rfl) rfl ?_
  have h00 := hI.2.1
  have hI1 : MI (us σ 703 0) := MI_free hI (by omega) (by decide)
  refine R_aload_n dX9_isOpen_0 rfl rfl rfl ?_
  refine R_aload_n dX9_isOpen_1 rfl rfl rfl ?_
  refine R_iload_n dX9_isOpen_2 rfl rfl ?_
  refine R_cV1 0 dX9_isOpen_3 rfl cv_X9_128 mh_get0 rfl rfl (Nat.le_of_ble_eq_true rfl) (Nat.zero_le _) (sp_X9_isStreet (by first | assumption | exact hI.1 _ | exact hI1.1 _ | exact hI2.1 _ | omega | (refine ⟨?_, ?_⟩ <;> omega)) (by first | assumption | exact hI.1 _ | exact hI1.1 _ | exact hI2.1 _ | omega | (refine ⟨?_, ?_⟩ <;> omega)) (kq.v ?_))
  refine Z_if_eqB dX9_isOpen_6 (tgt := 13) (by decide) (fun c_6 => ?_) (fun c_6 => ?_)
  · skip
    refine R_iconst dX9_isOpen_13 (v := zI (1)) rfl ?_
    refine Zm_pf7 dX9_isOpen_14 pf_X9_38 ?_
    refine R_aload_n dX9_isOpen_17 rfl rfl rfl ?_
    refine Zm_gf dX9_isOpen_18 gf_X9_38 rfl ?_
    refine Z_if_ne dX9_isOpen_21 (by rw [us_eq]; decide) (tgt := 36) (by decide) (fun c_21 => ?_) (fun c_21 => absurd c_21 (by rw [us_eq]; decide))
    refine R_iconst dX9_isOpen_36 (v := zI (0)) rfl ?_
    refine Z_retI dX9_isOpen_37 (rf01 rfl (by omega)) ?_
    first | exact mQi (h2 (by omega)) rfl (b2i_1 (by omega)) | exact mQi (h2 (by omega)) rfl (b2i_0 (by omega)) | exact h1 (by omega)
  · skip
    refine R_iconst dX9_isOpen_9 (v := zI (0)) rfl ?_
    refine R_goto dX9_isOpen_10 (tgt := 14) (by decide) ?_
    refine Zm_pf7 dX9_isOpen_14 pf_X9_38 ?_
    refine R_aload_n dX9_isOpen_17 rfl rfl rfl ?_
    refine Zm_gf dX9_isOpen_18 gf_X9_38 rfl ?_
    refine Z_if_ne dX9_isOpen_21 (by rw [us_eq]; decide) (tgt := 36) (by decide) (fun c_21 => absurd c_21 (by rw [us_eq]; decide)) (fun c_21 => ?_)
    refine R_aload_n dX9_isOpen_24 rfl rfl rfl ?_
    refine R_iload_n dX9_isOpen_25 rfl rfl ?_
    refine R_cV1 0 dX9_isOpen_26 rfl cv_X9_80 mh_get0 rfl rfl (Nat.le_of_ble_eq_true rfl) (Nat.zero_le _) (sp_X9_isFree (by first | assumption | exact hI.1 _ | exact hI1.1 _ | exact hI2.1 _ | omega | (refine ⟨?_, ?_⟩ <;> omega)) (by first | assumption | exact hI.1 _ | exact hI1.1 _ | exact hI2.1 _ | omega | (refine ⟨?_, ?_⟩ <;> omega)) (kq.v ?_))
    refine Z_if_eqB dX9_isOpen_29 (tgt := 36) (by decide) (fun c_29 => ?_) (fun c_29 => ?_)
    · skip
      refine R_iconst dX9_isOpen_36 (v := zI (0)) rfl ?_
      refine Z_retI dX9_isOpen_37 (rf01 rfl (by omega)) ?_
      first | exact mQi (h2 (by omega)) rfl (b2i_1 (by omega)) | exact mQi (h2 (by omega)) rfl (b2i_0 (by omega)) | exact h1 (by omega)
    · skip
      refine R_iconst dX9_isOpen_32 (v := zI (1)) rfl ?_
      refine R_goto dX9_isOpen_33 (tgt := 37) (by decide) ?_
      refine Z_retI dX9_isOpen_37 (rf01 rfl (by omega)) ?_
      first | exact mQi (h2 (by omega)) rfl (b2i_1 (by omega)) | exact mQi (h2 (by omega)) rfl (b2i_0 (by omega)) | exact h1 (by omega)

theorem sp_X9_junctionOf {Ω : Wd} {d r : Nat} {Q : Hp → Out → Prop} {b : Nat} {h0 : Hp} {σ : St} {q : Int} {τ : St} (hτ : us σ 703 0 = τ) (hI : MI τ) (hq : rg q) (h1 : ¬ (0 ≤ q ∧ q ≤ 3) → Q (mh b h0 (us τ 703 1)) (.inl (some (.int (zI 0))))) (h2 : (0 ≤ q ∧ q ≤ 3) → Q (mh b h0 τ) (.inl (some (.int (zI (τ (97 + 5 * q + 0))))))) : Ok Ω M_X9_junctionOf (d + 3) r [.ref b, .int (zI q)] (mh b h0 σ) Q := by
  refine Ok.of (by decide) rfl (Nat.le_of_ble_eq_true rfl) rfl ?_
  refine R_aload_n dX9_junctionOf_0 rfl rfl rfl ?_
  refine R_iload_n dX9_junctionOf_1 rfl rfl ?_
  refine R_iconst dX9_junctionOf_2 (v := zI (0)) rfl ?_
  refine R_cV2 0 dX9_junctionOf_3 rfl cv_X9_173 mh_get0 rfl rfl (Nat.le_of_ble_eq_true rfl) (Nat.zero_le _) (sp_X9_told hτ hq (by omega) (fun c0 => kq.v ?_) (fun c0 => kq.v ?_))
  · skip
    skip
    refine Z_retI dX9_junctionOf_6 (rf_i rfl) ?_
    exact h1 c0
  · skip
    skip
    refine Z_retI dX9_junctionOf_6 (rf_i rfl) ?_
    exact h2 c0

theorem sp_X9_movesOf {Ω : Wd} {d r : Nat} {Q : Hp → Out → Prop} {b : Nat} {h0 : Hp} {σ : St} {q : Int} {τ : St} (hτ : us σ 703 0 = τ) (hI : MI τ) (hq : rg q) (h1 : ¬ (0 ≤ q ∧ q ≤ 3) → Q (mh b h0 (us τ 703 1)) (.inl (some (.int (zI 0))))) (h2 : (0 ≤ q ∧ q ≤ 3) → Q (mh b h0 τ) (.inl (some (.int (zI (τ (97 + 5 * q + 3))))))) : Ok Ω M_X9_movesOf (d + 3) r [.ref b, .int (zI q)] (mh b h0 σ) Q := by
  refine Ok.of (by decide) rfl (Nat.le_of_ble_eq_true rfl) rfl ?_
  refine R_aload_n dX9_movesOf_0 rfl rfl rfl ?_
  refine R_iload_n dX9_movesOf_1 rfl rfl ?_
  refine R_iconst dX9_movesOf_2 (v := zI (3)) rfl ?_
  refine R_cV2 0 dX9_movesOf_3 rfl cv_X9_173 mh_get0 rfl rfl (Nat.le_of_ble_eq_true rfl) (Nat.zero_le _) (sp_X9_told hτ hq (by omega) (fun c0 => kq.v ?_) (fun c0 => kq.v ?_))
  · skip
    skip
    refine Z_retI dX9_movesOf_6 (rf_i rfl) ?_
    exact h1 c0
  · skip
    skip
    refine Z_retI dX9_movesOf_6 (rf_i rfl) ?_
    exact h2 c0

theorem sp_X9_outcomeOf {Ω : Wd} {d r : Nat} {Q : Hp → Out → Prop} {b : Nat} {h0 : Hp} {σ : St} {q : Int} {τ : St} (hτ : us σ 703 0 = τ) (hI : MI τ) (hq : rg q) (h1 : ¬ (0 ≤ q ∧ q ≤ 3) → Q (mh b h0 (us τ 703 1)) (.inl (some (.int (zI 0))))) (h2 : (0 ≤ q ∧ q ≤ 3) → Q (mh b h0 τ) (.inl (some (.int (zI (τ (97 + 5 * q + 4))))))) : Ok Ω M_X9_outcomeOf (d + 3) r [.ref b, .int (zI q)] (mh b h0 σ) Q := by
  refine Ok.of (by decide) rfl (Nat.le_of_ble_eq_true rfl) rfl ?_
  refine R_aload_n dX9_outcomeOf_0 rfl rfl rfl ?_
  refine R_iload_n dX9_outcomeOf_1 rfl rfl ?_
  refine R_iconst dX9_outcomeOf_2 (v := zI (4)) rfl ?_
  refine R_cV2 0 dX9_outcomeOf_3 rfl cv_X9_173 mh_get0 rfl rfl (Nat.le_of_ble_eq_true rfl) (Nat.zero_le _) (sp_X9_told hτ hq (by omega) (fun c0 => kq.v ?_) (fun c0 => kq.v ?_))
  · skip
    skip
    refine Z_retI dX9_outcomeOf_6 (rf_i rfl) ?_
    exact h1 c0
  · skip
    skip
    refine Z_retI dX9_outcomeOf_6 (rf_i rfl) ?_
    exact h2 c0

theorem sp_X9_hasVan {Ω : Wd} {d r : Nat} {Q : Hp → Out → Prop} {b : Nat} {h0 : Hp} {σ : St} {q : Int} {τ : St} (hτ : us σ 703 0 = τ) (hI : MI τ) (hq : rg q) (h1 : ¬ (0 ≤ q ∧ q ≤ 3) → Q (mh b h0 (us τ 703 1)) (.inl (some (.int (zI 0))))) (h2 : (0 ≤ q ∧ q ≤ 3) → Q (mh b h0 τ) (.inl (some (.int (zI (b2i (τ (97 + 5 * q + 1) = 1))))))) : Ok Ω M_X9_hasVan (d + 3) r [.ref b, .int (zI q)] (mh b h0 σ) Q := by
  refine Ok.of (by decide) rfl (Nat.le_of_ble_eq_true rfl) rfl ?_
  refine R_aload_n dX9_hasVan_0 rfl rfl rfl ?_
  refine R_iload_n dX9_hasVan_1 rfl rfl ?_
  refine R_iconst dX9_hasVan_2 (v := zI (1)) rfl ?_
  refine R_cV2 0 dX9_hasVan_3 rfl cv_X9_173 mh_get0 rfl rfl (Nat.le_of_ble_eq_true rfl) (Nat.zero_le _) (sp_X9_told hτ hq (by omega) (fun c0 => kq.v ?_) (fun c0 => kq.v ?_))
  · skip
    skip
    refine R_iconst dX9_hasVan_6 (v := zI (1)) rfl ?_
    refine Z_icmp_ne dX9_hasVan_7 (by first | exact hI.1 _ | assumption | exact hI1.1 _ | exact hI2.1 _ | exact ⟨by omega, by omega⟩) (by first | exact hI.1 _ | assumption | exact hI1.1 _ | exact hI2.1 _ | exact ⟨by omega, by omega⟩) (tgt := 14) (by decide) (fun c_7 => ?_) (fun c_7 => ?_)
    · skip
      refine R_iconst dX9_hasVan_14 (v := zI (0)) rfl ?_
      refine Z_retI dX9_hasVan_15 (rf01 rfl (by omega)) ?_
      first | exact h1 c0 | exact absurd c_7 (by decide)
    · skip
      refine R_iconst dX9_hasVan_10 (v := zI (1)) rfl ?_
      refine R_goto dX9_hasVan_11 (tgt := 15) (by decide) ?_
      refine Z_retI dX9_hasVan_15 (rf01 rfl (by omega)) ?_
      first | exact h1 c0 | exact absurd c_7 (by decide)
  · skip
    skip
    refine R_iconst dX9_hasVan_6 (v := zI (1)) rfl ?_
    refine Z_icmp_ne dX9_hasVan_7 (by first | exact hI.1 _ | assumption | exact hI1.1 _ | exact hI2.1 _ | exact ⟨by omega, by omega⟩) (by first | exact hI.1 _ | assumption | exact hI1.1 _ | exact hI2.1 _ | exact ⟨by omega, by omega⟩) (tgt := 14) (by decide) (fun c_7 => ?_) (fun c_7 => ?_)
    · skip
      refine R_iconst dX9_hasVan_14 (v := zI (0)) rfl ?_
      refine Z_retI dX9_hasVan_15 (rf01 rfl (by omega)) ?_
      exact mQi (h2 c0) rfl (by first | exact b2i_1 (by omega) | exact b2i_0 (by omega))
    · skip
      refine R_iconst dX9_hasVan_10 (v := zI (1)) rfl ?_
      refine R_goto dX9_hasVan_11 (tgt := 15) (by decide) ?_
      refine Z_retI dX9_hasVan_15 (rf01 rfl (by omega)) ?_
      exact mQi (h2 c0) rfl (by first | exact b2i_1 (by omega) | exact b2i_0 (by omega))

theorem sp_X9_hasOrder {Ω : Wd} {d r : Nat} {Q : Hp → Out → Prop} {b : Nat} {h0 : Hp} {σ : St} {q : Int} {τ : St} (hτ : us σ 703 0 = τ) (hI : MI τ) (hq : rg q) (h1 : ¬ (0 ≤ q ∧ q ≤ 3) → Q (mh b h0 (us τ 703 1)) (.inl (some (.int (zI 0))))) (h2 : (0 ≤ q ∧ q ≤ 3) → Q (mh b h0 τ) (.inl (some (.int (zI (b2i (¬ τ (97 + 5 * q + 2) = -1))))))) : Ok Ω M_X9_hasOrder (d + 3) r [.ref b, .int (zI q)] (mh b h0 σ) Q := by
  refine Ok.of (by decide) rfl (Nat.le_of_ble_eq_true rfl) rfl ?_
  refine R_aload_n dX9_hasOrder_0 rfl rfl rfl ?_
  refine R_iload_n dX9_hasOrder_1 rfl rfl ?_
  refine R_iconst dX9_hasOrder_2 (v := zI (2)) rfl ?_
  refine R_cV2 0 dX9_hasOrder_3 rfl cv_X9_173 mh_get0 rfl rfl (Nat.le_of_ble_eq_true rfl) (Nat.zero_le _) (sp_X9_told hτ hq (by omega) (fun c0 => kq.v ?_) (fun c0 => kq.v ?_))
  · skip
    have e1 : us τ 703 1 703 = 1 := us_eq _ _ _
    have e0 : τ 703 = 0 := by rw [← hτ]; exact us_eq _ _ _
    refine R_istore_n dX9_hasOrder_6 rfl (by decide) rfl rfl ?_
    refine R_aload_n dX9_hasOrder_7 rfl rfl rfl ?_
    refine Zm_gf dX9_hasOrder_8 gf_X9_38 rfl ?_
    refine Z_if_ne dX9_hasOrder_11 (by first | exact hI.1 _ | assumption | exact hI1.1 _ | exact hI2.1 _ | exact ⟨by omega, by omega⟩) (tgt := 23) (by decide) (fun c_11 => ?_) (fun c_11 => ?_)
    · skip
      refine R_iconst dX9_hasOrder_23 (v := zI (0)) rfl ?_
      refine Z_retI dX9_hasOrder_24 (rf01 rfl (by omega)) ?_
      first | exact h1 c0 | exact absurd c_11 (by rw [e1]; decide)
    · skip
      refine R_iload_n dX9_hasOrder_14 rfl rfl ?_
      refine R_iconst dX9_hasOrder_15 (v := zI (-1)) rfl ?_
      refine Z_icmp_eq dX9_hasOrder_16 (by first | exact hI.1 _ | assumption | exact hI1.1 _ | exact hI2.1 _ | exact ⟨by omega, by omega⟩) (by first | exact hI.1 _ | assumption | exact hI1.1 _ | exact hI2.1 _ | exact ⟨by omega, by omega⟩) (tgt := 23) (by decide) (fun c_16 => ?_) (fun c_16 => ?_)
      · skip
        refine R_iconst dX9_hasOrder_23 (v := zI (0)) rfl ?_
        refine Z_retI dX9_hasOrder_24 (rf01 rfl (by omega)) ?_
        first | exact h1 c0 | exact absurd c_11 (by rw [e1]; decide)
      · skip
        refine R_iconst dX9_hasOrder_19 (v := zI (1)) rfl ?_
        refine R_goto dX9_hasOrder_20 (tgt := 24) (by decide) ?_
        refine Z_retI dX9_hasOrder_24 (rf01 rfl (by omega)) ?_
        first | exact h1 c0 | exact absurd c_11 (by rw [e1]; decide)
  · skip
    have e1 : us τ 703 1 703 = 1 := us_eq _ _ _
    have e0 : τ 703 = 0 := by rw [← hτ]; exact us_eq _ _ _
    refine R_istore_n dX9_hasOrder_6 rfl (by decide) rfl rfl ?_
    refine R_aload_n dX9_hasOrder_7 rfl rfl rfl ?_
    refine Zm_gf dX9_hasOrder_8 gf_X9_38 rfl ?_
    refine Z_if_ne dX9_hasOrder_11 (by first | exact hI.1 _ | assumption | exact hI1.1 _ | exact hI2.1 _ | exact ⟨by omega, by omega⟩) (tgt := 23) (by decide) (fun c_11 => ?_) (fun c_11 => ?_)
    · skip
      refine R_iconst dX9_hasOrder_23 (v := zI (0)) rfl ?_
      refine Z_retI dX9_hasOrder_24 (rf01 rfl (by omega)) ?_
      first | exact mQi (h2 c0) rfl (by first | exact b2i_1 (by omega) | exact b2i_0 (by omega)) | exact absurd e0 (by omega)
    · skip
      refine R_iload_n dX9_hasOrder_14 rfl rfl ?_
      refine R_iconst dX9_hasOrder_15 (v := zI (-1)) rfl ?_
      refine Z_icmp_eq dX9_hasOrder_16 (by first | exact hI.1 _ | assumption | exact hI1.1 _ | exact hI2.1 _ | exact ⟨by omega, by omega⟩) (by first | exact hI.1 _ | assumption | exact hI1.1 _ | exact hI2.1 _ | exact ⟨by omega, by omega⟩) (tgt := 23) (by decide) (fun c_16 => ?_) (fun c_16 => ?_)
      · skip
        refine R_iconst dX9_hasOrder_23 (v := zI (0)) rfl ?_
        refine Z_retI dX9_hasOrder_24 (rf01 rfl (by omega)) ?_
        first | exact mQi (h2 c0) rfl (by first | exact b2i_1 (by omega) | exact b2i_0 (by omega)) | exact absurd e0 (by omega)
      · skip
        refine R_iconst dX9_hasOrder_19 (v := zI (1)) rfl ?_
        refine R_goto dX9_hasOrder_20 (tgt := 24) (by decide) ?_
        refine Z_retI dX9_hasOrder_24 (rf01 rfl (by omega)) ?_
        first | exact mQi (h2 c0) rfl (by first | exact b2i_1 (by omega) | exact b2i_0 (by omega)) | exact absurd e0 (by omega)

theorem sp_X9_orderOf {Ω : Wd} {d r : Nat} {Q : Hp → Out → Prop} {b : Nat} {h0 : Hp} {σ : St} {q : Int} {τ : St} (hτ : us σ 703 0 = τ) (hI : MI τ) (hq : rg q) (h1 : ¬ (0 ≤ q ∧ q ≤ 3) → Q (mh b h0 (us τ 703 1)) (.inl (some (.int (zI 0))))) (h3 : (0 ≤ q ∧ q ≤ 3) → τ (97 + 5 * q + 2) = -1 → Q (mh b h0 (us τ 703 2)) (.inl (some (.int (zI 0))))) (h2 : (0 ≤ q ∧ q ≤ 3) → ¬ τ (97 + 5 * q + 2) = -1 → Q (mh b h0 τ) (.inl (some (.int (zI (τ (97 + 5 * q + 2))))))) : Ok Ω M_X9_orderOf (d + 3) r [.ref b, .int (zI q)] (mh b h0 σ) Q := by
  refine Ok.of (by decide) rfl (Nat.le_of_ble_eq_true rfl) rfl ?_
  refine R_aload_n dX9_orderOf_0 rfl rfl rfl ?_
  refine R_iload_n dX9_orderOf_1 rfl rfl ?_
  refine R_iconst dX9_orderOf_2 (v := zI (2)) rfl ?_
  refine R_cV2 0 dX9_orderOf_3 rfl cv_X9_173 mh_get0 rfl rfl (Nat.le_of_ble_eq_true rfl) (Nat.zero_le _) (sp_X9_told hτ hq (by omega) (fun c0 => kq.v ?_) (fun c0 => kq.v ?_))
  · skip
    skip
    refine R_istore_n dX9_orderOf_6 rfl (by decide) rfl rfl ?_
    refine R_iload_n dX9_orderOf_7 rfl rfl ?_
    refine R_iconst dX9_orderOf_8 (v := zI (-1)) rfl ?_
    refine Z_icmp_ne dX9_orderOf_9 (by first | exact hI.1 _ | assumption | exact hI1.1 _ | exact hI2.1 _ | exact ⟨by omega, by omega⟩) (by first | exact hI.1 _ | assumption | exact hI1.1 _ | exact hI2.1 _ | exact ⟨by omega, by omega⟩) (tgt := 20) (by decide) (fun c_9 => ?_) (fun c_9 => ?_)
    · skip
      refine R_iload_n dX9_orderOf_20 rfl rfl ?_
      refine Z_retI dX9_orderOf_21 (rf_i rfl) ?_
      first | exact h1 c0 | exact absurd c_9 (by decide)
    · skip
      refine R_aload_n dX9_orderOf_12 rfl rfl rfl ?_
      refine R_iconst dX9_orderOf_13 (v := zI (2)) rfl ?_
      refine R_cV1 0 dX9_orderOf_14 rfl cv_X9_122 mh_get0 rfl rfl (Nat.le_of_ble_eq_true rfl) (Nat.zero_le _) (sp_X9_throwing  (kq.v ?_))
      refine R_goto dX9_orderOf_17 (tgt := 21) (by decide) ?_
      refine Z_retI dX9_orderOf_21 (rf_i rfl) ?_
      first | exact h1 c0 | exact absurd c_9 (by decide)
  · skip
    skip
    refine R_istore_n dX9_orderOf_6 rfl (by decide) rfl rfl ?_
    refine R_iload_n dX9_orderOf_7 rfl rfl ?_
    refine R_iconst dX9_orderOf_8 (v := zI (-1)) rfl ?_
    refine Z_icmp_ne dX9_orderOf_9 (by first | exact hI.1 _ | assumption | exact hI1.1 _ | exact hI2.1 _ | exact ⟨by omega, by omega⟩) (by first | exact hI.1 _ | assumption | exact hI1.1 _ | exact hI2.1 _ | exact ⟨by omega, by omega⟩) (tgt := 20) (by decide) (fun c_9 => ?_) (fun c_9 => ?_)
    · skip
      refine R_iload_n dX9_orderOf_20 rfl rfl ?_
      refine Z_retI dX9_orderOf_21 (rf_i rfl) ?_
      first | exact h2 c0 (by omega) | exact h3 c0 (by omega)
    · skip
      refine R_aload_n dX9_orderOf_12 rfl rfl rfl ?_
      refine R_iconst dX9_orderOf_13 (v := zI (2)) rfl ?_
      refine R_cV1 0 dX9_orderOf_14 rfl cv_X9_122 mh_get0 rfl rfl (Nat.le_of_ble_eq_true rfl) (Nat.zero_le _) (sp_X9_throwing  (kq.v ?_))
      refine R_goto dX9_orderOf_17 (tgt := 21) (by decide) ?_
      refine Z_retI dX9_orderOf_21 (rf_i rfl) ?_
      first | exact h2 c0 (by omega) | exact h3 c0 (by omega)


