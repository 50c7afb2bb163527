/-! the model's small methods -/
set_option maxRecDepth 100000
theorem sp_X9_thrown {Ω : Wd} {d r : Nat} {Q : Hp → Out → Prop} {b : Nat} {h0 : Hp} {σ : St}  (hQ : Q (mh b h0 (σ)) (.inl (some (.int (zI (σ 703)))))) : Ok Ω M_X9_thrown d r [.ref b] (mh b h0 (σ)) Q := by
  refine Ok.of (by decide) rfl (Nat.le_of_ble_eq_true rfl) rfl ?_
  refine R_aload_n dX9_thrown_0 rfl rfl rfl ?_
  refine Zm_gf dX9_thrown_1 gf_X9_38 rfl ?_
  refine Z_retI dX9_thrown_4 (rf_i rfl) ?_
  first | exact hQ | exact mQi hQ rfl (by first | rfl | omega | exact b2i_1 (by omega) | exact b2i_0 (by omega) | (simp [*]; done))

theorem sp_X9_throwing {Ω : Wd} {d r : Nat} {Q : Hp → Out → Prop} {b : Nat} {h0 : Hp} {σ : St} {v : Int}  (hQ : Q (mh b h0 (us σ 703 v)) (.inl (some (.int (zI (0)))))) : Ok Ω M_X9_throwing d r [.ref b, .int (zI v)] (mh b h0 (σ)) Q := by
  refine Ok.of (by decide) rfl (Nat.le_of_ble_eq_true rfl) rfl ?_
  refine R_aload_n dX9_throwing_0 rfl rfl rfl ?_
  refine R_iload_n dX9_throwing_1 rfl rfl ?_
  refine Zm_pf7 dX9_throwing_2 pf_X9_38 ?_
  refine R_iconst dX9_throwing_5 (v := zI (0)) rfl ?_
  refine Z_retI dX9_throwing_6 (rf_i rfl) ?_
  first | exact hQ | exact mQi hQ rfl (by first | rfl | omega | exact b2i_1 (by omega) | exact b2i_0 (by omega) | (simp [*]; done))

theorem sp_X9_in {Ω : Wd} {d r : Nat} {Q : Hp → Out → Prop} {b : Nat} {h0 : Hp} {σ : St} {v lo hi : Int} (hv : rg v) (hl : rg lo) (hh : rg hi) (hQ : Q (mh b h0 (σ)) (.inl (some (.int (zI (b2i (lo ≤ v ∧ v ≤ hi))))))) : Ok Ω M_X9_in d r [.int (zI v), .int (zI lo), .int (zI hi)] (mh b h0 (σ)) Q := by
  refine Ok.of (by decide) rfl (Nat.le_of_ble_eq_true rfl) rfl ?_
  refine R_iload_n dX9_in_0 rfl rfl ?_
  refine R_iload_n dX9_in_1 rfl rfl ?_
  refine Z_icmp_lt dX9_in_2 (by first | exact hI.1 _ | assumption | exact hI1.1 _ | exact hI2.1 _ | exact ⟨by omega, by omega⟩) (by first | exact hI.1 _ | assumption | exact hI1.1 _ | exact hI2.1 _ | exact ⟨by omega, by omega⟩) (tgt := 14) (by decide) (fun c_2 => ?_) (fun c_2 => ?_)
  · skip
    refine R_iconst dX9_in_14 (v := zI (0)) rfl ?_
    refine Z_retI dX9_in_15 (rf01 rfl (by omega)) ?_
    first | exact hQ | exact mQi hQ rfl (by first | rfl | omega | exact b2i_1 (by omega) | exact b2i_0 (by omega) | (simp [*]; done))
  · skip
    refine R_iload_n dX9_in_5 rfl rfl ?_
    refine R_iload_n dX9_in_6 rfl rfl ?_
    refine Z_icmp_gt dX9_in_7 (by first | exact hI.1 _ | assumption | exact hI1.1 _ | exact hI2.1 _ | exact ⟨by omega, by omega⟩) (by first | exact hI.1 _ | assumption | exact hI1.1 _ | exact hI2.1 _ | exact ⟨by omega, by omega⟩) (tgt := 14) (by decide) (fun c_7 => ?_) (fun c_7 => ?_)
    · skip
      refine R_iconst dX9_in_14 (v := zI (0)) rfl ?_
      refine Z_retI dX9_in_15 (rf01 rfl (by omega)) ?_
      first | exact hQ | exact mQi hQ rfl (by first | rfl | omega | exact b2i_1 (by omega) | exact b2i_0 (by omega) | (simp [*]; done))
    · skip
      refine R_iconst dX9_in_10 (v := zI (1)) rfl ?_
      refine R_goto dX9_in_11 (tgt := 15) (by decide) ?_
      refine Z_retI dX9_in_15 (rf01 rfl (by omega)) ?_
      first | exact hQ | exact mQi hQ rfl (by first | rfl | omega | exact b2i_1 (by omega) | exact b2i_0 (by omega) | (simp [*]; done))

theorem sp_X9_isJunction {Ω : Wd} {d r : Nat} {Q : Hp → Out → Prop} {b : Nat} {h0 : Hp} {σ : St} {v : Int} (hv : rg v) (hQ : Q (mh b h0 (σ)) (.inl (some (.int (zI (b2i (0 ≤ v ∧ v ≤ 9))))))) : Ok Ω M_X9_isJunction (d + 1) r [.int (zI v)] (mh b h0 (σ)) Q := by
  refine Ok.of (by decide) rfl (Nat.le_of_ble_eq_true rfl) rfl ?_
  refine R_iload_n dX9_isJunction_0 rfl rfl ?_
  refine R_iconst dX9_isJunction_1 (v := zI (0)) rfl ?_
  refine R_bipush dX9_isJunction_2 (v := zI (9)) rfl ?_
  refine R_cS3 0 dX9_isJunction_4 rfl cs_X9_42 (Nat.le_of_ble_eq_true rfl) (Nat.zero_le _) (sp_X9_in (by first | assumption | exact hI.1 _ | exact hI1.1 _ | exact hI2.1 _ | omega | (refine ⟨?_, ?_⟩ <;> omega)) (by first | assumption | exact hI.1 _ | exact hI1.1 _ | exact hI2.1 _ | omega | (refine ⟨?_, ?_⟩ <;> omega)) (by first | assumption | exact hI.1 _ | exact hI1.1 _ | exact hI2.1 _ | omega | (refine ⟨?_, ?_⟩ <;> omega)) (kq.v ?_))
  refine Z_retI dX9_isJunction_7 (rfb rfl) ?_
  first | exact hQ | exact mQi hQ rfl (by first | rfl | omega | exact b2i_1 (by omega) | exact b2i_0 (by omega) | (simp [*]; done))

theorem sp_X9_isCourier {Ω : Wd} {d r : Nat} {Q : Hp → Out → Prop} {b : Nat} {h0 : Hp} {σ : St} {v : Int} (hv : rg v) (hQ : Q (mh b h0 (σ)) (.inl (some (.int (zI (b2i (0 ≤ v ∧ v ≤ 3))))))) : Ok Ω M_X9_isCourier (d + 1) r [.int (zI v)] (mh b h0 (σ)) Q := by
  refine Ok.of (by decide) rfl (Nat.le_of_ble_eq_true rfl) rfl ?_
  refine R_iload_n dX9_isCourier_0 rfl rfl ?_
  refine R_iconst dX9_isCourier_1 (v := zI (0)) rfl ?_
  refine R_iconst dX9_isCourier_2 (v := zI (3)) rfl ?_
  refine R_cS3 0 dX9_isCourier_3 rfl cs_X9_42 (Nat.le_of_ble_eq_true rfl) (Nat.zero_le _) (sp_X9_in (by first | assumption | exact hI.1 _ | exact hI1.1 _ | exact hI2.1 _ | omega | (refine ⟨?_, ?_⟩ <;> omega)) (by first | assumption | exact hI.1 _ | exact hI1.1 _ | exact hI2.1 _ | omega | (refine ⟨?_, ?_⟩ <;> omega)) (by first | assumption | exact hI.1 _ | exact hI1.1 _ | exact hI2.1 _ | omega | (refine ⟨?_, ?_⟩ <;> omega)) (kq.v ?_))
  refine Z_retI dX9_isCourier_6 (rfb rfl) ?_
  first | exact hQ | exact mQi hQ rfl (by first | rfl | omega | exact b2i_1 (by omega) | exact b2i_0 (by omega) | (simp [*]; done))

theorem sp_X9_isStreet {Ω : Wd} {d r : Nat} {Q : Hp → Out → Prop} {b : Nat} {h0 : Hp} {σ : St} {v : Int} (hv : rg v) (hs : 0 ≤ σ 0 ∧ σ 0 ≤ 24) (hQ : Q (mh b h0 (σ)) (.inl (some (.int (zI (b2i (0 ≤ v ∧ v ≤ σ 0 - 1))))))) : Ok Ω M_X9_isStreet (d + 1) r [.ref b, .int (zI v)] (mh b h0 (σ)) Q := by
  refine Ok.of (by decide) rfl (Nat.le_of_ble_eq_true rfl) rfl ?_
  refine R_iload_n dX9_isStreet_0 rfl rfl ?_
  refine R_iconst dX9_isStreet_1 (v := zI (0)) rfl ?_
  refine R_aload_n dX9_isStreet_2 rfl rfl rfl ?_
  refine Zm_gf dX9_isStreet_3 gf_X9_7 rfl ?_
  refine R_iconst dX9_isStreet_6 (v := zI (0)) rfl ?_
  refine Zm_ld1 dX9_isStreet_7 (by omega) ?_
  refine R_iconst dX9_isStreet_8 (v := zI (1)) rfl ?_
  refine Z_isub dX9_isStreet_9 ?_
  refine R_cS3 0 dX9_isStreet_10 rfl cs_X9_42 (Nat.le_of_ble_eq_true rfl) (Nat.zero_le _) (sp_X9_in (by first | assumption | exact hI.1 _ | exact hI1.1 _ | exact hI2.1 _ | omega | (refine ⟨?_, ?_⟩ <;> omega)) (by first | assumption | exact hI.1 _ | exact hI1.1 _ | exact hI2.1 _ | omega | (refine ⟨?_, ?_⟩ <;> omega)) (by first | assumption | exact hI.1 _ | exact hI1.1 _ | exact hI2.1 _ | omega | (refine ⟨?_, ?_⟩ <;> omega)) (kq.v ?_))
  refine Z_retI dX9_isStreet_13 (rfb rfl) ?_
  first | exact hQ | exact mQi hQ rfl (by first | rfl | omega | exact b2i_1 (by omega) | exact b2i_0 (by omega) | (simp [*]; done))

theorem sp_X9_isParcel {Ω : Wd} {d r : Nat} {Q : Hp → Out → Prop} {b : Nat} {h0 : Hp} {σ : St} {v : Int} (hv : rg v) (hs : 0 ≤ σ 117 ∧ σ 117 ≤ 8) (hQ : Q (mh b h0 (σ)) (.inl (some (.int (zI (b2i (0 ≤ v ∧ v ≤ σ 117 - 1))))))) : Ok Ω M_X9_isParcel (d + 1) r [.ref b, .int (zI v)] (mh b h0 (σ)) Q := by
  refine Ok.of (by decide) rfl (Nat.le_of_ble_eq_true rfl) rfl ?_
  refine R_iload_n dX9_isParcel_0 rfl rfl ?_
  refine R_iconst dX9_isParcel_1 (v := zI (0)) rfl ?_
  refine R_aload_n dX9_isParcel_2 rfl rfl rfl ?_
  refine Zm_gf dX9_isParcel_3 gf_X9_7 rfl ?_
  refine R_bipush dX9_isParcel_6 (v := zI (117)) rfl ?_
  refine Zm_ld1 dX9_isParcel_8 (by omega) ?_
  refine R_iconst dX9_isParcel_9 (v := zI (1)) rfl ?_
  refine Z_isub dX9_isParcel_10 ?_
  refine R_cS3 0 dX9_isParcel_11 rfl cs_X9_42 (Nat.le_of_ble_eq_true rfl) (Nat.zero_le _) (sp_X9_in (by first | assumption | exact hI.1 _ | exact hI1.1 _ | exact hI2.1 _ | omega | (refine ⟨?_, ?_⟩ <;> omega)) (by first | assumption | exact hI.1 _ | exact hI1.1 _ | exact hI2.1 _ | omega | (refine ⟨?_, ?_⟩ <;> omega)) (by first | assumption | exact hI.1 _ | exact hI1.1 _ | exact hI2.1 _ | omega | (refine ⟨?_, ?_⟩ <;> omega)) (kq.v ?_))
  refine Z_retI dX9_isParcel_14 (rfb rfl) ?_
  first | exact hQ | exact mQi hQ rfl (by first | rfl | omega | exact b2i_1 (by omega) | exact b2i_0 (by omega) | (simp [*]; done))

theorem sp_X9_of {Ω : Wd} {d r : Nat} {Q : Hp → Out → Prop} {b : Nat} {h0 : Hp} {σ : St} {c w : Int} (hi : 0 ≤ 97 + 5 * c + w ∧ 97 + 5 * c + w < 299) (hQ : Q (mh b h0 (σ)) (.inl (some (.int (zI (σ (97 + 5 * c + w))))))) : Ok Ω M_X9_of d r [.ref b, .int (zI c), .int (zI w)] (mh b h0 (σ)) Q := by
  refine Ok.of (by decide) rfl (Nat.le_of_ble_eq_true rfl) rfl ?_
  refine R_aload_n dX9_of_0 rfl rfl rfl ?_
  refine Zm_gf dX9_of_1 gf_X9_7 rfl ?_
  refine R_bipush dX9_of_4 (v := zI (97)) rfl ?_
  refine R_iconst dX9_of_6 (v := zI (5)) rfl ?_
  refine R_iload_n dX9_of_7 rfl rfl ?_
  refine Z_imul dX9_of_8 ?_
  refine Z_iadd dX9_of_9 ?_
  refine R_iload_n dX9_of_10 rfl rfl ?_
  refine Z_iadd dX9_of_11 ?_
  refine Zm_ld1 dX9_of_12 (by omega) ?_
  refine Z_retI dX9_of_13 (rf_i rfl) ?_
  first | exact hQ | exact mQi hQ rfl (by first | rfl | omega | exact b2i_1 (by omega) | exact b2i_0 (by omega) | (simp [*]; done))

theorem sp_X9_lay {Ω : Wd} {d r : Nat} {Q : Hp → Out → Prop} {b : Nat} {h0 : Hp} {σ : St} {c w v : Int} (hi : 0 ≤ 97 + 5 * c + w ∧ 97 + 5 * c + w < 299) (hQ : Q (mh b h0 (us σ (97 + 5 * c + w) v)) (.inl none)) : Ok Ω M_X9_lay d r [.ref b, .int (zI c), .int (zI w), .int (zI v)] (mh b h0 (σ)) Q := by
  refine Ok.of (by decide) rfl (Nat.le_of_ble_eq_true rfl) rfl ?_
  refine R_aload_n dX9_lay_0 rfl rfl rfl ?_
  refine Zm_gf dX9_lay_1 gf_X9_7 rfl ?_
  refine R_bipush dX9_lay_4 (v := zI (97)) rfl ?_
  refine R_iconst dX9_lay_6 (v := zI (5)) rfl ?_
  refine R_iload_n dX9_lay_7 rfl rfl ?_
  refine Z_imul dX9_lay_8 ?_
  refine Z_iadd dX9_lay_9 ?_
  refine R_iload_n dX9_lay_10 rfl rfl ?_
  refine Z_iadd dX9_lay_11 ?_
  refine R_iload_n dX9_lay_12 rfl rfl ?_
  refine Zm_st1 dX9_lay_13 (by omega) ?_
  refine Z_retV dX9_lay_14 (rf_v rfl) ?_
  exact hQ

theorem sp_X9_has {Ω : Wd} {d r : Nat} {Q : Hp → Out → Prop} {b : Nat} {h0 : Hp} {σ : St} {c w : Int} (hi : 0 ≤ 118 + 6 * c + w ∧ 118 + 6 * c + w < 299) (hQ : Q (mh b h0 (σ)) (.inl (some (.int (zI (σ (118 + 6 * c + w))))))) : Ok Ω M_X9_has d r [.ref b, .int (zI c), .int (zI w)] (mh b h0 (σ)) Q := by
  refine Ok.of (by decide) rfl (Nat.le_of_ble_eq_true rfl) rfl ?_
  refine R_aload_n dX9_has_0 rfl rfl rfl ?_
  refine Zm_gf dX9_has_1 gf_X9_7 rfl ?_
  refine R_bipush dX9_has_4 (v := zI (118)) rfl ?_
  refine R_bipush dX9_has_6 (v := zI (6)) rfl ?_
  refine R_iload_n dX9_has_8 rfl rfl ?_
  refine Z_imul dX9_has_9 ?_
  refine Z_iadd dX9_has_10 ?_
  refine R_iload_n dX9_has_11 rfl rfl ?_
  refine Z_iadd dX9_has_12 ?_
  refine Zm_ld1 dX9_has_13 (by omega) ?_
  refine Z_retI dX9_has_14 (rf_i rfl) ?_
  first | exact hQ | exact mQi hQ rfl (by first | rfl | omega | exact b2i_1 (by omega) | exact b2i_0 (by omega) | (simp [*]; done))

theorem sp_X9_put {Ω : Wd} {d r : Nat} {Q : Hp → Out → Prop} {b : Nat} {h0 : Hp} {σ : St} {c w v : Int} (hi : 0 ≤ 118 + 6 * c + w ∧ 118 + 6 * c + w < 299) (hQ : Q (mh b h0 (us σ (118 + 6 * c + w) v)) (.inl none)) : Ok Ω M_X9_put d r [.ref b, .int (zI c), .int (zI w), .int (zI v)] (mh b h0 (σ)) Q := by
  refine Ok.of (by decide) rfl (Nat.le_of_ble_eq_true rfl) rfl ?_
  refine R_aload_n dX9_put_0 rfl rfl rfl ?_
  refine Zm_gf dX9_put_1 gf_X9_7 rfl ?_
  refine R_bipush dX9_put_4 (v := zI (118)) rfl ?_
  refine R_bipush dX9_put_6 (v := zI (6)) rfl ?_
  refine R_iload_n dX9_put_8 rfl rfl ?_
  refine Z_imul dX9_put_9 ?_
  refine Z_iadd dX9_put_10 ?_
  refine R_iload_n dX9_put_11 rfl rfl ?_
  refine Z_iadd dX9_put_12 ?_
  refine R_iload_n dX9_put_13 rfl rfl ?_
  refine Zm_st1 dX9_put_14 (by omega) ?_
  refine Z_retV dX9_put_15 (rf_v rfl) ?_
  exact hQ

theorem sp_X9_from {Ω : Wd} {d r : Nat} {Q : Hp → Out → Prop} {b : Nat} {h0 : Hp} {σ : St} {k : Int} (hi : 0 ≤ k ∧ k < 24) (hQ : Q (mh b h0 (σ)) (.inl (some (.int (zI (σ (1 + 4 * k))))))) : Ok Ω M_X9_from d r [.ref b, .int (zI k)] (mh b h0 (σ)) Q := by
  refine Ok.of (by decide) rfl (Nat.le_of_ble_eq_true rfl) rfl ?_
  refine R_aload_n dX9_from_0 rfl rfl rfl ?_
  refine Zm_gf dX9_from_1 gf_X9_7 rfl ?_
  refine R_iconst dX9_from_4 (v := zI (1)) rfl ?_
  refine R_iconst dX9_from_5 (v := zI (4)) rfl ?_
  refine R_iload_n dX9_from_6 rfl rfl ?_
  refine Z_imul dX9_from_7 ?_
  refine Z_iadd dX9_from_8 ?_
  refine Zm_ld1 dX9_from_9 (by omega) ?_
  refine Z_retI dX9_from_10 (rf_i rfl) ?_
  first | exact hQ | exact mQi hQ rfl (by first | rfl | omega | exact b2i_1 (by omega) | exact b2i_0 (by omega) | (simp [*]; done))

theorem sp_X9_to {Ω : Wd} {d r : Nat} {Q : Hp → Out → Prop} {b : Nat} {h0 : Hp} {σ : St} {k : Int} (hi : 0 ≤ k ∧ k < 24) (hQ : Q (mh b h0 (σ)) (.inl (some (.int (zI (σ (1 + 4 * k + 1))))))) : Ok Ω M_X9_to d r [.ref b, .int (zI k)] (mh b h0 (σ)) Q := by
  refine Ok.of (by decide) rfl (Nat.le_of_ble_eq_true rfl) rfl ?_
  refine R_aload_n dX9_to_0 rfl rfl rfl ?_
  refine Zm_gf dX9_to_1 gf_X9_7 rfl ?_
  refine R_iconst dX9_to_4 (v := zI (1)) rfl ?_
  refine R_iconst dX9_to_5 (v := zI (4)) rfl ?_
  refine R_iload_n dX9_to_6 rfl rfl ?_
  refine Z_imul dX9_to_7 ?_
  refine Z_iadd dX9_to_8 ?_
  refine R_iconst dX9_to_9 (v := zI (1)) rfl ?_
  refine Z_iadd dX9_to_10 ?_
  refine Zm_ld1 dX9_to_11 (by omega) ?_
  refine Z_retI dX9_to_12 (rf_i rfl) ?_
  first | exact hQ | exact mQi hQ rfl (by first | rfl | omega | exact b2i_1 (by omega) | exact b2i_0 (by omega) | (simp [*]; done))

theorem sp_X9_isNarrow {Ω : Wd} {d r : Nat} {Q : Hp → Out → Prop} {b : Nat} {h0 : Hp} {σ : St} {k : Int} (hi : 0 ≤ k ∧ k < 24) (hr : rg (σ (1 + 4 * k + 2))) (hQ : Q (mh b h0 (σ)) (.inl (some (.int (zI (b2i (σ (1 + 4 * k + 2) = 1))))))) : Ok Ω M_X9_isNarrow d r [.ref b, .int (zI k)] (mh b h0 (σ)) Q := by
  refine Ok.of (by decide) rfl (Nat.le_of_ble_eq_true rfl) rfl ?_
  refine R_aload_n dX9_isNarrow_0 rfl rfl rfl ?_
  refine Zm_gf dX9_isNarrow_1 gf_X9_7 rfl ?_
  refine R_iconst dX9_isNarrow_4 (v := zI (1)) rfl ?_
  refine R_iconst dX9_isNarrow_5 (v := zI (4)) rfl ?_
  refine R_iload_n dX9_isNarrow_6 rfl rfl ?_
  refine Z_imul dX9_isNarrow_7 ?_
  refine Z_iadd dX9_isNarrow_8 ?_
  refine R_iconst dX9_isNarrow_9 (v := zI (2)) rfl ?_
  refine Z_iadd dX9_isNarrow_10 ?_
  refine Zm_ld1 dX9_isNarrow_11 (by omega) ?_
  refine R_iconst dX9_isNarrow_12 (v := zI (1)) rfl ?_
  refine Z_icmp_ne dX9_isNarrow_13 (by first | exact hI.1 _ | assumption | exact hI1.1 _ | exact hI2.1 _ | exact ⟨by omega, by omega⟩) (by first | exact hI.1 _ | assumption | exact hI1.1 _ | exact hI2.1 _ | exact ⟨by omega, by omega⟩) (tgt := 20) (by decide) (fun c_13 => ?_) (fun c_13 => ?_)
  · skip
    refine R_iconst dX9_isNarrow_20 (v := zI (0)) rfl ?_
    refine Z_retI dX9_isNarrow_21 (rf01 rfl (by omega)) ?_
    first | exact hQ | exact mQi hQ rfl (by first | rfl | omega | exact b2i_1 (by omega) | exact b2i_0 (by omega) | (simp [*]; done))
  · skip
    refine R_iconst dX9_isNarrow_16 (v := zI (1)) rfl ?_
    refine R_goto dX9_isNarrow_17 (tgt := 21) (by decide) ?_
    refine Z_retI dX9_isNarrow_21 (rf01 rfl (by omega)) ?_
    first | exact hQ | exact mQi hQ rfl (by first | rfl | omega | exact b2i_1 (by omega) | exact b2i_0 (by omega) | (simp [*]; done))

theorem sp_X9_isFree {Ω : Wd} {d r : Nat} {Q : Hp → Out → Prop} {b : Nat} {h0 : Hp} {σ : St} {k : Int} (hi : 0 ≤ k ∧ k < 24) (hr : rg (σ (1 + 4 * k + 3))) (hQ : Q (mh b h0 (σ)) (.inl (some (.int (zI (b2i (σ (1 + 4 * k + 3) = 1))))))) : Ok Ω M_X9_isFree d r [.ref b, .int (zI k)] (mh b h0 (σ)) Q := by
  refine Ok.of (by decide) rfl (Nat.le_of_ble_eq_true rfl) rfl ?_
  refine R_aload_n dX9_isFree_0 rfl rfl rfl ?_
  refine Zm_gf dX9_isFree_1 gf_X9_7 rfl ?_
  refine R_iconst dX9_isFree_4 (v := zI (1)) rfl ?_
  refine R_iconst dX9_isFree_5 (v := zI (4)) rfl ?_
  refine R_iload_n dX9_isFree_6 rfl rfl ?_
  refine Z_imul dX9_isFree_7 ?_
  refine Z_iadd dX9_isFree_8 ?_
  refine R_iconst dX9_isFree_9 (v := zI (3)) rfl ?_
  refine Z_iadd dX9_isFree_10 ?_
  refine Zm_ld1 dX9_isFree_11 (by omega) ?_
  refine R_iconst dX9_isFree_12 (v := zI (1)) rfl ?_
  refine Z_icmp_ne dX9_isFree_13 (by first | exact hI.1 _ | assumption | exact hI1.1 _ | exact hI2.1 _ | exact ⟨by omega, by omega⟩) (by first | exact hI.1 _ | assumption | exact hI1.1 _ | exact hI2.1 _ | exact ⟨by omega, by omega⟩) (tgt := 20) (by decide) (fun c_13 => ?_) (fun c_13 => ?_)
  · skip
    refine R_iconst dX9_isFree_20 (v := zI (0)) rfl ?_
    refine Z_retI dX9_isFree_21 (rf01 rfl (by omega)) ?_
    first | exact hQ | exact mQi hQ rfl (by first | rfl | omega | exact b2i_1 (by omega) | exact b2i_0 (by omega) | (simp [*]; done))
  · skip
    refine R_iconst dX9_isFree_16 (v := zI (1)) rfl ?_
    refine R_goto dX9_isFree_17 (tgt := 21) (by decide) ?_
    refine Z_retI dX9_isFree_21 (rf01 rfl (by omega)) ?_
    first | exact hQ | exact mQi hQ rfl (by first | rfl | omega | exact b2i_1 (by omega) | exact b2i_0 (by omega) | (simp [*]; done))

theorem sp_X9_room {Ω : Wd} {d r : Nat} {Q : Hp → Out → Prop} {b : Nat} {h0 : Hp} {σ : St} {c v n : Int} (hv : rg v) (hQ : Q (mh b h0 (σ)) (.inl (some (.int (zI (if v = 1 then 2 * n else n)))))) : Ok Ω M_X9_room d r [.ref b, .int (zI c), .int (zI v), .int (zI n)] (mh b h0 (σ)) Q := by
  refine Ok.of (by decide) rfl (Nat.le_of_ble_eq_true rfl) rfl ?_
  refine R_iload_n dX9_room_0 rfl rfl ?_
  refine R_iconst dX9_room_1 (v := zI (1)) rfl ?_
  refine Z_icmp_ne dX9_room_2 (by first | exact hI.1 _ | assumption | exact hI1.1 _ | exact hI2.1 _ | exact ⟨by omega, by omega⟩) (by first | exact hI.1 _ | assumption | exact hI1.1 _ | exact hI2.1 _ | exact ⟨by omega, by omega⟩) (tgt := 11) (by decide) (fun c_2 => ?_) (fun c_2 => ?_)
  · skip
    refine R_iload_n dX9_room_11 rfl rfl ?_
    refine Z_retI dX9_room_12 (rf_i rfl) ?_
    exact mQi hQ rfl (by simp [*])
  · skip
    refine R_iconst dX9_room_5 (v := zI (2)) rfl ?_
    refine R_iload_n dX9_room_6 rfl rfl ?_
    refine Z_imul dX9_room_7 ?_
    refine R_goto dX9_room_8 (tgt := 12) (by decide) ?_
    refine Z_retI dX9_room_12 (rf_i rfl) ?_
    exact mQi hQ rfl (by simp [*])

def carF (σ : St) (c : Int) : Int := if σ (97 + 5 * c + 1) = 1 then 2 * σ 166 else σ 166

theorem sp_X9_carries {Ω : Wd} {d r : Nat} {Q : Hp → Out → Prop} {b : Nat} {h0 : Hp} {σ : St} {c : Int} (hi : 0 ≤ c ∧ c < 4) (hr : rg (σ (97 + 5 * c + 1))) (hQ : Q (mh b h0 (σ)) (.inl (some (.int (zI (carF σ c)))))) : Ok Ω M_X9_carries (d + 1) r [.ref b, .int (zI c)] (mh b h0 (σ)) Q := by
  refine Ok.of (by decide) rfl (Nat.le_of_ble_eq_true rfl) rfl ?_
  refine R_aload_n dX9_carries_0 rfl rfl rfl ?_
  refine R_iload_n dX9_carries_1 rfl rfl ?_
  refine R_aload_n dX9_carries_2 rfl rfl rfl ?_
  refine R_iload_n dX9_carries_3 rfl rfl ?_
  refine R_iconst dX9_carries_4 (v := zI (1)) rfl ?_
  refine R_cV2 0 dX9_carries_5 rfl cv_X9_53 mh_get0 rfl rfl (Nat.le_of_ble_eq_true rfl) (Nat.zero_le _) (sp_X9_of (by first | assumption | exact hI.1 _ | exact hI1.1 _ | exact hI2.1 _ | omega | (refine ⟨?_, ?_⟩ <;> omega)) (kq.v ?_))
  refine R_aload_n dX9_carries_8 rfl rfl rfl ?_
  refine Zm_gf dX9_carries_9 gf_X9_7 rfl ?_
  refine R_sipush dX9_carries_12 (v := zI (166)) rfl ?_
  refine Zm_ld1 dX9_carries_15 (by omega) ?_
  refine R_cV3 0 dX9_carries_16 rfl cv_X9_56 mh_get0 rfl rfl (Nat.le_of_ble_eq_true rfl) (Nat.zero_le _) (sp_X9_room (by first | assumption | exact hI.1 _ | exact hI1.1 _ | exact hI2.1 _ | omega | (refine ⟨?_, ?_⟩ <;> omega)) (kq.v ?_))
  refine Z_retI dX9_carries_19 (rf_i rfl) ?_
  first | exact hQ | exact mQi hQ rfl (by first | rfl | omega | exact b2i_1 (by omega) | exact b2i_0 (by omega) | (simp [*]; done))
theorem carF_bd {σ : St} {c : Int} (h : 1 ≤ σ 166 ∧ σ 166 ≤ 9) : 1 ≤ carF σ c ∧ carF σ c ≤ 18 := by
  unfold carF
  split <;> omega


