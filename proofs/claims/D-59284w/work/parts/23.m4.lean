/-! the model: serving, turns, streets' toggles -/
set_option maxRecDepth 100000
def ahP (σ : St) (a o : Int) : Prop := σ (118 + 6 * o + 3) < σ (118 + 6 * a + 3) ∨ (σ (118 + 6 * o + 3) = σ (118 + 6 * a + 3) ∧ (σ (118 + 6 * a + 2) < σ (118 + 6 * o + 2) ∨ (σ (118 + 6 * a + 2) = σ (118 + 6 * o + 2) ∧ a < o)))

theorem sp_X9_isAhead {Ω : Wd} {d r : Nat} {Q : Hp → Out → Prop} {b : Nat} {h0 : Hp} {σ : St} {a o : Int} (hI : MI σ) (ha : 0 ≤ a ∧ a < σ 117) (ho : 0 ≤ o ∧ o < σ 117) (hQ : Q (mh b h0 (σ)) (.inl (some (.int (zI (b2i (ahP σ a o))))))) : Ok Ω M_X9_isAhead (d + 1) r [.ref b, .int (zI a), .int (zI o)] (mh b h0 (σ)) Q := by
  refine Ok.of (by decide) rfl (Nat.le_of_ble_eq_true rfl) rfl ?_
  have h117 := hI.2.2.1
  have h1 := hI.2.2.2.2.2.2.2.2 a ha
  have h2 := hI.2.2.2.2.2.2.2.2 o ho
  refine R_aload_n dX9_isAhead_0 rfl rfl rfl ?_
  refine R_iload_n dX9_isAhead_1 rfl rfl ?_
  refine R_iconst dX9_isAhead_2 (v := zI (3)) rfl ?_
  refine R_cV2 0 dX9_isAhead_3 rfl cv_X9_49 mh_get0 rfl rfl (Nat.le_of_ble_eq_true rfl) (Nat.zero_le _) (sp_X9_has (by first | assumption | exact hI.1 _ | exact hI1.1 _ | exact hI2.1 _ | omega | (refine ⟨?_, ?_⟩ <;> omega)) (kq.v ?_))
  refine R_aload_n dX9_isAhead_6 rfl rfl rfl ?_
  refine R_iload_n dX9_isAhead_7 rfl rfl ?_
  refine R_iconst dX9_isAhead_8 (v := zI (3)) rfl ?_
  refine R_cV2 0 dX9_isAhead_9 rfl cv_X9_49 mh_get0 rfl rfl (Nat.le_of_ble_eq_true rfl) (Nat.zero_le _) (sp_X9_has (by first | assumption | exact hI.1 _ | exact hI1.1 _ | exact hI2.1 _ | omega | (refine ⟨?_, ?_⟩ <;> omega)) (kq.v ?_))
  refine Z_isub dX9_isAhead_12 ?_
  refine R_istore_n dX9_isAhead_13 rfl (by decide) rfl rfl ?_
  refine R_iload_n dX9_isAhead_14 rfl rfl ?_
  refine Z_if_ne dX9_isAhead_15 (by first | exact hI.1 _ | assumption | exact hI1.1 _ | exact hI2.1 _ | exact ⟨by omega, by omega⟩) (tgt := 34) (by decide) (fun c_15 => ?_) (fun c_15 => ?_)
  · skip
    refine R_iload_n dX9_isAhead_34 rfl rfl ?_
    refine R_istore_n dX9_isAhead_35 rfl (by decide) rfl rfl ?_
    refine R_iload_n dX9_isAhead_36 rfl rfl ?_
    refine Z_if_gt dX9_isAhead_37 (by first | exact hI.1 _ | assumption | exact hI1.1 _ | exact hI2.1 _ | exact ⟨by omega, by omega⟩) (tgt := 49) (by decide) (fun c_37 => ?_) (fun c_37 => ?_)
    · skip
      refine R_iconst dX9_isAhead_49 (v := zI (1)) rfl ?_
      refine R_goto dX9_isAhead_50 (tgt := 54) (by decide) ?_
      refine Z_retI dX9_isAhead_54 (rf01 rfl (by omega)) ?_
      exact mQi hQ rfl (by unfold ahP; first | exact b2i_1 (by omega) | exact b2i_0 (by omega))
    · skip
      refine R_iload_n dX9_isAhead_40 rfl rfl ?_
      refine Z_if_ne dX9_isAhead_41 (by first | exact hI.1 _ | assumption | exact hI1.1 _ | exact hI2.1 _ | exact ⟨by omega, by omega⟩) (tgt := 53) (by decide) (fun c_41 => ?_) (fun c_41 => ?_)
      · skip
        refine R_iconst dX9_isAhead_53 (v := zI (0)) rfl ?_
        refine Z_retI dX9_isAhead_54 (rf01 rfl (by omega)) ?_
        exact mQi hQ rfl (by unfold ahP; first | exact b2i_1 (by omega) | exact b2i_0 (by omega))
      · skip
        refine R_iload_n dX9_isAhead_44 rfl rfl ?_
        refine R_iload_n dX9_isAhead_45 rfl rfl ?_
        refine Z_icmp_ge dX9_isAhead_46 (by first | exact hI.1 _ | assumption | exact hI1.1 _ | exact hI2.1 _ | exact ⟨by omega, by omega⟩) (by first | exact hI.1 _ | assumption | exact hI1.1 _ | exact hI2.1 _ | exact ⟨by omega, by omega⟩) (tgt := 53) (by decide) (fun c_46 => ?_) (fun c_46 => ?_)
        · skip
          refine R_iconst dX9_isAhead_53 (v := zI (0)) rfl ?_
          refine Z_retI dX9_isAhead_54 (rf01 rfl (by omega)) ?_
          exact mQi hQ rfl (by unfold ahP; first | exact b2i_1 (by omega) | exact b2i_0 (by omega))
        · skip
          refine R_iconst dX9_isAhead_49 (v := zI (1)) rfl ?_
          refine R_goto dX9_isAhead_50 (tgt := 54) (by decide) ?_
          refine Z_retI dX9_isAhead_54 (rf01 rfl (by omega)) ?_
          exact mQi hQ rfl (by unfold ahP; first | exact b2i_1 (by omega) | exact b2i_0 (by omega))
  · skip
    refine R_aload_n dX9_isAhead_18 rfl rfl rfl ?_
    refine R_iload_n dX9_isAhead_19 rfl rfl ?_
    refine R_iconst dX9_isAhead_20 (v := zI (2)) rfl ?_
    refine R_cV2 0 dX9_isAhead_21 rfl cv_X9_49 mh_get0 rfl rfl (Nat.le_of_ble_eq_true rfl) (Nat.zero_le _) (sp_X9_has (by first | assumption | exact hI.1 _ | exact hI1.1 _ | exact hI2.1 _ | omega | (refine ⟨?_, ?_⟩ <;> omega)) (kq.v ?_))
    refine R_aload_n dX9_isAhead_24 rfl rfl rfl ?_
    refine R_iload_n dX9_isAhead_25 rfl rfl ?_
    refine R_iconst dX9_isAhead_26 (v := zI (2)) rfl ?_
    refine R_cV2 0 dX9_isAhead_27 rfl cv_X9_49 mh_get0 rfl rfl (Nat.le_of_ble_eq_true rfl) (Nat.zero_le _) (sp_X9_has (by first | assumption | exact hI.1 _ | exact hI1.1 _ | exact hI2.1 _ | omega | (refine ⟨?_, ?_⟩ <;> omega)) (kq.v ?_))
    refine Z_isub dX9_isAhead_30 ?_
    refine R_goto dX9_isAhead_31 (tgt := 35) (by decide) ?_
    refine R_istore_n dX9_isAhead_35 rfl (by decide) rfl rfl ?_
    refine R_iload_n dX9_isAhead_36 rfl rfl ?_
    refine Z_if_gt dX9_isAhead_37 (by first | exact hI.1 _ | assumption | exact hI1.1 _ | exact hI2.1 _ | exact ⟨by omega, by omega⟩) (tgt := 49) (by decide) (fun c_37 => ?_) (fun c_37 => ?_)
    · skip
      refine R_iconst dX9_isAhead_49 (v := zI (1)) rfl ?_
      refine R_goto dX9_isAhead_50 (tgt := 54) (by decide) ?_
      refine Z_retI dX9_isAhead_54 (rf01 rfl (by omega)) ?_
      exact mQi hQ rfl (by unfold ahP; first | exact b2i_1 (by omega) | exact b2i_0 (by omega))
    · skip
      refine R_iload_n dX9_isAhead_40 rfl rfl ?_
      refine Z_if_ne dX9_isAhead_41 (by first | exact hI.1 _ | assumption | exact hI1.1 _ | exact hI2.1 _ | exact ⟨by omega, by omega⟩) (tgt := 53) (by decide) (fun c_41 => ?_) (fun c_41 => ?_)
      · skip
        refine R_iconst dX9_isAhead_53 (v := zI (0)) rfl ?_
        refine Z_retI dX9_isAhead_54 (rf01 rfl (by omega)) ?_
        exact mQi hQ rfl (by unfold ahP; first | exact b2i_1 (by omega) | exact b2i_0 (by omega))
      · skip
        refine R_iload_n dX9_isAhead_44 rfl rfl ?_
        refine R_iload_n dX9_isAhead_45 rfl rfl ?_
        refine Z_icmp_ge dX9_isAhead_46 (by first | exact hI.1 _ | assumption | exact hI1.1 _ | exact hI2.1 _ | exact ⟨by omega, by omega⟩) (by first | exact hI.1 _ | assumption | exact hI1.1 _ | exact hI2.1 _ | exact ⟨by omega, by omega⟩) (tgt := 53) (by decide) (fun c_46 => ?_) (fun c_46 => ?_)
        · skip
          refine R_iconst dX9_isAhead_53 (v := zI (0)) rfl ?_
          refine Z_retI dX9_isAhead_54 (rf01 rfl (by omega)) ?_
          exact mQi hQ rfl (by unfold ahP; first | exact b2i_1 (by omega) | exact b2i_0 (by omega))
        · skip
          refine R_iconst dX9_isAhead_49 (v := zI (1)) rfl ?_
          refine R_goto dX9_isAhead_50 (tgt := 54) (by decide) ?_
          refine Z_retI dX9_isAhead_54 (rf01 rfl (by omega)) ?_
          exact mQi hQ rfl (by unfold ahP; first | exact b2i_1 (by omega) | exact b2i_0 (by omega))

abbrev hereP (σ : St) (j l p : Int) : Prop := σ (118 + 6 * p + 4) = 0 ∧ σ (118 + 6 * p + 0) = j ∧ (l = -1 ∨ ahP σ l p)
/-- the parcel to look at next, among the first ones -/
noncomputable def nxtS (σ : St) (j l : Int) : Nat → Int
  | 0 => -1
  | n + 1 => pif (hereP σ j l n ∧ (nxtS σ j l n = -1 ∨ ahP σ n (nxtS σ j l n))) n (nxtS σ j l n)
noncomputable abbrev nxtF (σ : St) (j l : Int) : Int := nxtS σ j l (σ 117).toNat
theorem nxtS_bd (σ : St) (j l : Int) : ∀ n : Nat, -1 ≤ nxtS σ j l n ∧ nxtS σ j l n < n
  | 0 => by simp [nxtS]
  | n + 1 => by
    have := nxtS_bd σ j l n
    unfold nxtS pif
    split <;> omega
theorem nxtF_bd {σ : St} (hI : MI σ) (j l : Int) : -1 ≤ nxtF σ j l ∧ nxtF σ j l < σ 117 ∨ nxtF σ j l = -1 := by
  have h117 := hI.2.2.1
  have := nxtS_bd σ j l (σ 117).toNat
  unfold nxtF
  omega

theorem lp_next {Ω : Wd} {d r : Nat} {Q : Hp → Out → Prop} {b : Nat} {h0 : Hp} {σ : St} {j l : Int} (hI : MI σ) (hj : rg j) (hl : -1 ≤ l ∧ l < 8) (hl2 : l = -1 ∨ l < σ 117) : ∀ (k n : Nat), n + k = (σ 117).toNat → At Ω M_X9_nextParcel (d + 2) r Q 93 [some (.ref b), some (.int (zI (j))), some (.int (zI (l))), some (.int (zI (nxtS σ j l (σ 117).toNat))), none, none] [] (mh b h0 (σ)) → At Ω M_X9_nextParcel (d + 2) r Q 5 [some (.ref b), some (.int (zI (j))), some (.int (zI (l))), some (.int (zI (nxtS σ j l n))), some (.int (zI (((n : Nat) : Int)))), none] [] (mh b h0 (σ)) := by
  intro k
  induction k with
  | zero =>
    intro n hn hX
    have hnN : n = (σ 117).toNat := by omega
    rw [hnN]
    have h117 := hI.2.2.1
    have hb := nxtS_bd σ j l (σ 117).toNat
    refine R_iload dX9_nextParcel_5 rfl ?_
    refine R_aload_n dX9_nextParcel_7 rfl rfl rfl ?_
    refine Zm_gf dX9_nextParcel_8 gf_X9_7 rfl ?_
    refine R_bipush dX9_nextParcel_11 (v := zI (117)) rfl ?_
    refine Zm_ld1 dX9_nextParcel_13 (by omega) ?_
    refine Z_icmp_ge dX9_nextParcel_14 (by first | exact hI.1 _ | assumption | exact hI1.1 _ | exact hI2.1 _ | exact ⟨by omega, by omega⟩) (by first | exact hI.1 _ | assumption | exact hI1.1 _ | exact hI2.1 _ | exact ⟨by omega, by omega⟩) (tgt := 93) (by decide) (fun c_14 => ?_) (fun c_14 => absurd c_14 (by omega))
    exact At.dropS (L' := [some (.ref b), some (.int (zI (j))), some (.int (zI (l))), some (.int (zI (nxtS σ j l (σ 117).toNat))), none, none]) ⟨rfl, rfl, rfl, rfl, trivial⟩ hX
  | succ k ih =>
    intro n hn hX
    have h117 := hI.2.2.1
    have hb := nxtS_bd σ j l n
    refine R_iload dX9_nextParcel_5 rfl ?_
    refine R_aload_n dX9_nextParcel_7 rfl rfl rfl ?_
    refine Zm_gf dX9_nextParcel_8 gf_X9_7 rfl ?_
    refine R_bipush dX9_nextParcel_11 (v := zI (117)) rfl ?_
    refine Zm_ld1 dX9_nextParcel_13 (by omega) ?_
    refine Z_icmp_ge dX9_nextParcel_14 (by first | exact hI.1 _ | assumption | exact hI1.1 _ | exact hI2.1 _ | exact ⟨by omega, by omega⟩) (by first | exact hI.1 _ | assumption | exact hI1.1 _ | exact hI2.1 _ | exact ⟨by omega, by omega⟩) (tgt := 93) (by decide) (fun c_14 => absurd c_14 (by omega)) (fun c_14 => ?_)
    refine z_joinB (hereP σ j l ((n : Nat) : Int)) 58 ?_ (fun jt_17 jf_17 => ?_)
    · skip
      refine R_istore dX9_nextParcel_58 (by decide) rfl rfl ?_
      refine z_joinI (pif (hereP σ j l ((n : Nat) : Int) ∧ (nxtS σ j l n = -1 ∨ ahP σ ((n : Nat) : Int) (nxtS σ j l n))) ((n : Nat) : Int) (nxtS σ j l n)) 86 ?_ (fun jj_60 => ?_)
      · skip
        refine R_istore_n dX9_nextParcel_86 rfl (by decide) rfl rfl ?_
        refine Z_iinc dX9_nextParcel_87 rfl (by decide) rfl rfl ?_
        refine R_goto dX9_nextParcel_90 (tgt := 5) (by decide) ?_
        exact At.dropS (L' := [some (.ref b), some (.int (zI (j))), some (.int (zI (l))), some (.int (zI (nxtS σ j l (n + 1)))), some (.int (zI ((((n + 1) : Nat) : Int)))), none]) ⟨rfl, rfl, rfl, rfl, rfl, trivial⟩ (ih (n + 1) (by omega) hX)
      · skip
        refine R_iload dX9_nextParcel_60 rfl ?_
        refine Z_if_eqB dX9_nextParcel_62 (tgt := 85) (by decide) (fun c_62 => ?_) (fun c_62 => ?_)
        · skip
          refine R_iload_n dX9_nextParcel_85 rfl rfl ?_
          exact jj_60 _ (by first | exact (pif_1 (by grind)).symm | exact (pif_0 (by grind)).symm)
        · skip
          refine R_iload_n dX9_nextParcel_65 rfl rfl ?_
          refine R_iconst dX9_nextParcel_66 (v := zI (-1)) rfl ?_
          refine Z_icmp_eq dX9_nextParcel_67 (by first | exact hI.1 _ | assumption | exact hI1.1 _ | exact hI2.1 _ | exact ⟨by omega, by omega⟩) (by first | exact hI.1 _ | assumption | exact hI1.1 _ | exact hI2.1 _ | exact ⟨by omega, by omega⟩) (tgt := 80) (by decide) (fun c_67 => ?_) (fun c_67 => ?_)
          · skip
            refine R_iload dX9_nextParcel_80 rfl ?_
            refine R_goto dX9_nextParcel_82 (tgt := 86) (by decide) ?_
            exact jj_60 _ (by first | exact (pif_1 (by grind)).symm | exact (pif_0 (by grind)).symm)
          · skip
            refine R_aload_n dX9_nextParcel_70 rfl rfl rfl ?_
            refine R_iload dX9_nextParcel_71 rfl ?_
            refine R_iload_n dX9_nextParcel_73 rfl rfl ?_
            refine R_cV2 0 dX9_nextParcel_74 rfl cv_X9_100 mh_get0 rfl rfl (Nat.le_of_ble_eq_true rfl) (Nat.zero_le _) (sp_X9_isAhead (by first | assumption | exact hI.1 _ | exact hI1.1 _ | exact hI2.1 _ | omega | (refine ⟨?_, ?_⟩ <;> omega)) (by first | assumption | exact hI.1 _ | exact hI1.1 _ | exact hI2.1 _ | omega | (refine ⟨?_, ?_⟩ <;> omega)) (by first | assumption | exact hI.1 _ | exact hI1.1 _ | exact hI2.1 _ | omega | (refine ⟨?_, ?_⟩ <;> omega)) (kq.v ?_))
            refine Z_if_eqB dX9_nextParcel_77 (tgt := 85) (by decide) (fun c_77 => ?_) (fun c_77 => ?_)
            · skip
              refine R_iload_n dX9_nextParcel_85 rfl rfl ?_
              exact jj_60 _ (by first | exact (pif_1 (by grind)).symm | exact (pif_0 (by grind)).symm)
            · skip
              refine R_iload dX9_nextParcel_80 rfl ?_
              refine R_goto dX9_nextParcel_82 (tgt := 86) (by decide) ?_
              exact jj_60 _ (by first | exact (pif_1 (by grind)).symm | exact (pif_0 (by grind)).symm)
    · skip
      refine R_aload_n dX9_nextParcel_17 rfl rfl rfl ?_
      refine R_iload dX9_nextParcel_18 rfl ?_
      refine R_iconst dX9_nextParcel_20 (v := zI (4)) rfl ?_
      refine R_cV2 0 dX9_nextParcel_21 rfl cv_X9_49 mh_get0 rfl rfl (Nat.le_of_ble_eq_true rfl) (Nat.zero_le _) (sp_X9_has (by first | assumption | exact hI.1 _ | exact hI1.1 _ | exact hI2.1 _ | omega | (refine ⟨?_, ?_⟩ <;> omega)) (kq.v ?_))
      refine Z_if_ne dX9_nextParcel_24 (by first | exact hI.1 _ | assumption | exact hI1.1 _ | exact hI2.1 _ | exact ⟨by omega, by omega⟩) (tgt := 57) (by decide) (fun c_24 => ?_) (fun c_24 => ?_)
      · skip
        refine R_iconst dX9_nextParcel_57 (v := zI (0)) rfl ?_
        exact jf_17 (by first | assumption | omega | grind | (simp [*]; done) | (simp_all; done))
      · skip
        refine R_aload_n dX9_nextParcel_27 rfl rfl rfl ?_
        refine R_iload dX9_nextParcel_28 rfl ?_
        refine R_iconst dX9_nextParcel_30 (v := zI (0)) rfl ?_
        refine R_cV2 0 dX9_nextParcel_31 rfl cv_X9_49 mh_get0 rfl rfl (Nat.le_of_ble_eq_true rfl) (Nat.zero_le _) (sp_X9_has (by first | assumption | exact hI.1 _ | exact hI1.1 _ | exact hI2.1 _ | omega | (refine ⟨?_, ?_⟩ <;> omega)) (kq.v ?_))
        refine R_iload_n dX9_nextParcel_34 rfl rfl ?_
        refine Z_icmp_ne dX9_nextParcel_35 (by first | exact hI.1 _ | assumption | exact hI1.1 _ | exact hI2.1 _ | exact ⟨by omega, by omega⟩) (by first | exact hI.1 _ | assumption | exact hI1.1 _ | exact hI2.1 _ | exact ⟨by omega, by omega⟩) (tgt := 57) (by decide) (fun c_35 => ?_) (fun c_35 => ?_)
        · skip
          refine R_iconst dX9_nextParcel_57 (v := zI (0)) rfl ?_
          exact jf_17 (by first | assumption | omega | grind | (simp [*]; done) | (simp_all; done))
        · skip
          refine R_iload_n dX9_nextParcel_38 rfl rfl ?_
          refine R_iconst dX9_nextParcel_39 (v := zI (-1)) rfl ?_
          refine Z_icmp_eq dX9_nextParcel_40 (by first | exact hI.1 _ | assumption | exact hI1.1 _ | exact hI2.1 _ | exact ⟨by omega, by omega⟩) (by first | exact hI.1 _ | assumption | exact hI1.1 _ | exact hI2.1 _ | exact ⟨by omega, by omega⟩) (tgt := 53) (by decide) (fun c_40 => ?_) (fun c_40 => ?_)
          · skip
            refine R_iconst dX9_nextParcel_53 (v := zI (1)) rfl ?_
            refine R_goto dX9_nextParcel_54 (tgt := 58) (by decide) ?_
            exact jt_17 (by first | assumption | omega | grind | (simp [*]; done) | (simp_all; done))
          · skip
            refine R_aload_n dX9_nextParcel_43 rfl rfl rfl ?_
            refine R_iload_n dX9_nextParcel_44 rfl rfl ?_
            refine R_iload dX9_nextParcel_45 rfl ?_
            refine R_cV2 0 dX9_nextParcel_47 rfl cv_X9_100 mh_get0 rfl rfl (Nat.le_of_ble_eq_true rfl) (Nat.zero_le _) (sp_X9_isAhead (by first | assumption | exact hI.1 _ | exact hI1.1 _ | exact hI2.1 _ | omega | (refine ⟨?_, ?_⟩ <;> omega)) (by first | assumption | exact hI.1 _ | exact hI1.1 _ | exact hI2.1 _ | omega | (refine ⟨?_, ?_⟩ <;> omega)) (by first | assumption | exact hI.1 _ | exact hI1.1 _ | exact hI2.1 _ | omega | (refine ⟨?_, ?_⟩ <;> omega)) (kq.v ?_))
            refine Z_if_eqB dX9_nextParcel_50 (tgt := 57) (by decide) (fun c_50 => ?_) (fun c_50 => ?_)
            · skip
              refine R_iconst dX9_nextParcel_57 (v := zI (0)) rfl ?_
              exact jf_17 (by first | assumption | omega | grind | (simp [*]; done) | (simp_all; done))
            · skip
              refine R_iconst dX9_nextParcel_53 (v := zI (1)) rfl ?_
              refine R_goto dX9_nextParcel_54 (tgt := 58) (by decide) ?_
              exact jt_17 (by first | assumption | omega | grind | (simp [*]; done) | (simp_all; done))

theorem sp_X9_nextParcel {Ω : Wd} {d r : Nat} {Q : Hp → Out → Prop} {b : Nat} {h0 : Hp} {σ : St} {j l : Int} (hI : MI σ) (hj : rg j) (hl : -1 ≤ l ∧ l < 8) (hl2 : l = -1 ∨ l < σ 117) (hQ : Q (mh b h0 (σ)) (.inl (some (.int (zI (nxtF σ j l)))))) : Ok Ω M_X9_nextParcel (d + 2) r [.ref b, .int (zI j), .int (zI l)] (mh b h0 (σ)) Q := by
  refine Ok.of (by decide) rfl (Nat.le_of_ble_eq_true rfl) rfl ?_
  refine R_iconst dX9_nextParcel_0 (v := zI (-1)) rfl ?_
  refine R_istore_n dX9_nextParcel_1 rfl (by decide) rfl rfl ?_
  refine R_iconst dX9_nextParcel_2 (v := zI (0)) rfl ?_
  refine R_istore dX9_nextParcel_3 (by decide) rfl rfl ?_
  refine At.dropS (L' := [some (.ref b), some (.int (zI (j))), some (.int (zI (l))), some (.int (zI (nxtS σ j l 0))), some (.int (zI (((0 : Nat) : Int)))), none]) ⟨rfl, rfl, rfl, rfl, rfl, trivial⟩ (lp_next hI hj hl hl2 _ 0 (Nat.zero_add _) ?_)
  refine R_iload_n dX9_nextParcel_93 rfl rfl ?_
  refine Z_retI dX9_nextParcel_94 (rf_i rfl) ?_
  first | exact hQ | exact mQi hQ rfl (by first | rfl | omega | exact b2i_1 (by omega) | exact b2i_0 (by omega) | (simp [*]; done))

/-- a courier delivers what is to go to its junction -/
def dlv1 (τ : St) (c p : Int) : St := us (us τ (118 + 6 * p + 4) 2) (170 + c / 2) (us τ (118 + 6 * p + 4) 2 (170 + c / 2) + us τ (118 + 6 * p + 4) 2 (118 + 6 * p + 3))
def dlvS (σ : St) (c j : Int) : Nat → St
  | 0 => σ
  | n + 1 => if dlvS σ c j n (118 + 6 * (n : Int) + 4) = 1 ∧ dlvS σ c j n (118 + 6 * (n : Int) + 5) = c ∧ dlvS σ c j n (118 + 6 * (n : Int) + 1) = j then dlv1 (dlvS σ c j n) c n else dlvS σ c j n
theorem dlv1_out {τ : St} {c p k : Int} (h1 : k ≠ 118 + 6 * p + 4) (h2 : k ≠ 170 + c / 2) : dlv1 τ c p k = τ k := by
  unfold dlv1
  rw [us_ne h2, us_ne h1]
theorem dlvS_out {σ : St} {c j k : Int} (hc : 0 ≤ c ∧ c < 4) (hk : ∀ p : Int, 0 ≤ p ∧ p < 8 → k ≠ 118 + 6 * p + 4) (h2 : k < 170 ∨ 172 ≤ k) : ∀ n : Nat, n ≤ 8 → dlvS σ c j n k = σ k
  | 0, _ => rfl
  | n + 1, hn => by
    unfold dlvS
    split
    · rw [dlv1_out (hk _ (by omega)) (by omega)]
      exact dlvS_out hc hk h2 n (by omega)
    · exact dlvS_out hc hk h2 n (by omega)
theorem dlv1_MI {τ : St} (hI : MI τ) {c p : Int} (hc : 0 ≤ c ∧ c < 4) (hp : 0 ≤ p ∧ p < 8) (hr : rg (τ (170 + c / 2) + τ (118 + 6 * p + 3))) : MI (dlv1 τ c p) := by
  unfold dlv1
  rw [show us τ (118 + 6 * p + 4) 2 (170 + c / 2) = τ (170 + c / 2) from us_ne (by omega), show us τ (118 + 6 * p + 4) 2 (118 + 6 * p + 3) = τ (118 + 6 * p + 3) from us_ne (by omega)]
  exact MI_free (MI_parc hI (p := p) (w := 4) hp rfl (by omega)) (by omega) hr
abbrev ptsB (B : Int) (σ : St) : Prop := ∀ z : Int, z = 0 ∨ z = 1 → -1000000 ≤ σ (170 + z) ∧ σ (170 + z) ≤ B
/-- the points stay small: at most 9 for each parcel that is delivered -/
theorem dlvS_MI {σ : St} (hI : MI σ) {c j B : Int} (hc : 0 ≤ c ∧ c < 4) (hB : B ≤ 2000000) (hP : ptsB B σ) : ∀ n : Nat, (n : Int) ≤ σ 117 → MI (dlvS σ c j n) ∧ dlvS σ c j n 117 = σ 117 ∧ ptsB (B + 9 * n) (dlvS σ c j n)
  | 0, _ => ⟨hI, rfl, fun z hz => by have := hP z hz; simp only [dlvS]; omega⟩
  | n + 1, hn => by
    have h117 := hI.2.2.1
    obtain ⟨i1, i2, i3⟩ := dlvS_MI hI (j := j) hc hB hP n (by omega)
    unfold dlvS
    split
    · have hv := i1.2.2.2.2.2.2.2.2 n (by omega)
      have hz := i3 (c / 2) (by omega)
      refine ⟨dlv1_MI i1 hc (by omega) ⟨by omega, by omega⟩, by rw [dlv1_out (by omega) (by omega)]; exact i2, fun z hz2 => ?_⟩
      have := i3 z hz2
      unfold dlv1
      refine us_P (P := fun x => -1000000 ≤ x ∧ x ≤ B + 9 * ((n + 1 : Nat) : Int)) (fun e => ?_) ?_
      · rw [us_ne (by omega), us_ne (by omega)]
        omega
      · rw [us_ne (by omega)]
        omega
    · refine ⟨i1, i2, fun z hz => ?_⟩
      have := i3 z hz
      omega
def tak1 (τ : St) (c p : Int) : St := if loadF τ c + τ (118 + 6 * p + 2) ≤ carF τ c then us (us τ (118 + 6 * p + 4) 1) (118 + 6 * p + 5) c else τ
noncomputable def takS (τ : St) (c j p : Int) : Nat → St
  | 0 => τ
  | k + 1 => if p = -1 then τ else takS (tak1 τ c p) c j (nxtF τ j p) k
def takE (τ : St) (c j p : Int) : Nat → Prop
  | 0 => p = -1
  | k + 1 => p = -1 ∨ takE (tak1 τ c p) c j (nxtF τ j p) k
theorem tak1_MI {τ : St} (hI : MI τ) {c p : Int} (hc : 0 ≤ c ∧ c < 4) (hp : 0 ≤ p ∧ p < 8) : MI (tak1 τ c p) := by
  unfold tak1
  split
  · exact MI_parc (MI_parc hI (p := p) (w := 4) (v := 1) hp rfl (by omega)) (p := p) (w := 5) (v := c) hp rfl (by omega)
  · exact hI
theorem tak1_out {τ : St} {c p k : Int} (h1 : k ≠ 118 + 6 * p + 4) (h2 : k ≠ 118 + 6 * p + 5) : tak1 τ c p k = τ k := by
  unfold tak1
  split
  · rw [us_ne h2, us_ne h1]
  · rfl

theorem lp_serve1 {Ω : Wd} {d r : Nat} {Q : Hp → Out → Prop} {b : Nat} {h0 : Hp} {σ : St} {c j B : Int} (hI : MI σ) (hc : 0 ≤ c ∧ c < 4) (hj : rg j) (hB : B ≤ 2000000) (hP : ptsB B σ) : ∀ (k n : Nat), n + k = (σ 117).toNat → At Ω M_X9_serves (d + 3) r Q 84 [some (.ref b), some (.int (zI (c))), some (.int (zI (j))), none, none] [] (mh b h0 (dlvS σ c j (σ 117).toNat)) → At Ω M_X9_serves (d + 3) r Q 9 [some (.ref b), some (.int (zI (c))), some (.int (zI (j))), some (.int (zI (((n : Nat) : Int)))), none] [] (mh b h0 (dlvS σ c j n)) := by
  intro k
  induction k with
  | zero =>
    intro n hn hX
    have hnN : n = (σ 117).toNat := by omega
    rw [hnN]
    have h117 := hI.2.2.1
    obtain ⟨hI1, e117, hP1⟩ := dlvS_MI hI (j := j) hc hB hP (σ 117).toNat (by omega)
    refine R_iload_n dX9_serves_9 rfl rfl ?_
    refine R_aload_n dX9_serves_10 rfl rfl rfl ?_
    refine Zm_gf dX9_serves_11 gf_X9_7 rfl ?_
    refine R_bipush dX9_serves_14 (v := zI (117)) rfl ?_
    refine Zm_ld1 dX9_serves_16 (by omega) ?_
    refine Z_icmp_ge dX9_serves_17 (by first | exact hI.1 _ | assumption | exact hI1.1 _ | exact hI2.1 _ | exact ⟨by omega, by omega⟩) (by first | exact hI.1 _ | assumption | exact hI1.1 _ | exact hI2.1 _ | exact ⟨by omega, by omega⟩) (tgt := 84) (by decide) (fun c_17 => ?_) (fun c_17 => absurd c_17 (by omega))
    exact At.dropS (L' := [some (.ref b), some (.int (zI (c))), some (.int (zI (j))), none, none]) ⟨rfl, rfl, rfl, trivial⟩ hX
  | succ k ih =>
    intro n hn hX
    have h117 := hI.2.2.1
    obtain ⟨hI1, e117, hP1⟩ := dlvS_MI hI (j := j) hc hB hP n (by omega)
    refine R_iload_n dX9_serves_9 rfl rfl ?_
    refine R_aload_n dX9_serves_10 rfl rfl rfl ?_
    refine Zm_gf dX9_serves_11 gf_X9_7 rfl ?_
    refine R_bipush dX9_serves_14 (v := zI (117)) rfl ?_
    refine Zm_ld1 dX9_serves_16 (by omega) ?_
    refine Z_icmp_ge dX9_serves_17 (by first | exact hI.1 _ | assumption | exact hI1.1 _ | exact hI2.1 _ | exact ⟨by omega, by omega⟩) (by first | exact hI.1 _ | assumption | exact hI1.1 _ | exact hI2.1 _ | exact ⟨by omega, by omega⟩) (tgt := 84) (by decide) (fun c_17 => absurd c_17 (by omega)) (fun c_17 => ?_)
    refine z_joinS [some (.ref b), some (.int (zI (c))), some (.int (zI (j))), some (.int (zI (((n : Nat) : Int)))), none] (if dlvS σ c j n (118 + 6 * ((n : Nat) : Int) + 4) = 1 ∧ dlvS σ c j n (118 + 6 * ((n : Nat) : Int) + 5) = c ∧ dlvS σ c j n (118 + 6 * ((n : Nat) : Int) + 1) = j then dlv1 (dlvS σ c j n) c ((n : Nat) : Int) else dlvS σ c j n) 78 ?_ (fun js_20 => ?_)
    · skip
      refine Z_iinc dX9_serves_78 rfl (by decide) rfl rfl ?_
      refine R_goto dX9_serves_81 (tgt := 9) (by decide) ?_
      exact At.dropS (L' := [some (.ref b), some (.int (zI (c))), some (.int (zI (j))), some (.int (zI ((((n + 1) : Nat) : Int)))), none]) ⟨rfl, rfl, rfl, rfl, trivial⟩ (ih (n + 1) (by omega) hX)
    · skip
      refine R_aload_n dX9_serves_20 rfl rfl rfl ?_
      refine R_iload_n dX9_serves_21 rfl rfl ?_
      refine R_iconst dX9_serves_22 (v := zI (4)) rfl ?_
      refine R_cV2 0 dX9_serves_23 rfl cv_X9_49 mh_get0 rfl rfl (Nat.le_of_ble_eq_true rfl) (Nat.zero_le _) (sp_X9_has (by first | assumption | exact hI.1 _ | exact hI1.1 _ | exact hI2.1 _ | omega | (refine ⟨?_, ?_⟩ <;> omega)) (kq.v ?_))
      refine R_iconst dX9_serves_26 (v := zI (1)) rfl ?_
      refine Z_icmp_ne dX9_serves_27 (by first | exact hI.1 _ | assumption | exact hI1.1 _ | exact hI2.1 _ | exact ⟨by omega, by omega⟩) (by first | exact hI.1 _ | assumption | exact hI1.1 _ | exact hI2.1 _ | exact ⟨by omega, by omega⟩) (tgt := 78) (by decide) (fun c_27 => ?_) (fun c_27 => ?_)
      · skip
        exact js_20 _ _ (by first | (rw [if_pos ⟨‹_›, ‹_›, ‹_›⟩]; rfl) | (rw [if_neg (by omega)])) ⟨rfl, rfl, rfl, rfl, trivial⟩
      · skip
        refine R_aload_n dX9_serves_30 rfl rfl rfl ?_
        refine R_iload_n dX9_serves_31 rfl rfl ?_
        refine R_iconst dX9_serves_32 (v := zI (5)) rfl ?_
        refine R_cV2 0 dX9_serves_33 rfl cv_X9_49 mh_get0 rfl rfl (Nat.le_of_ble_eq_true rfl) (Nat.zero_le _) (sp_X9_has (by first | assumption | exact hI.1 _ | exact hI1.1 _ | exact hI2.1 _ | omega | (refine ⟨?_, ?_⟩ <;> omega)) (kq.v ?_))
        refine R_iload_n dX9_serves_36 rfl rfl ?_
        refine Z_icmp_ne dX9_serves_37 (by first | exact hI.1 _ | assumption | exact hI1.1 _ | exact hI2.1 _ | exact ⟨by omega, by omega⟩) (by first | exact hI.1 _ | assumption | exact hI1.1 _ | exact hI2.1 _ | exact ⟨by omega, by omega⟩) (tgt := 78) (by decide) (fun c_37 => ?_) (fun c_37 => ?_)
        · skip
          exact js_20 _ _ (by first | (rw [if_pos ⟨‹_›, ‹_›, ‹_›⟩]; rfl) | (rw [if_neg (by omega)])) ⟨rfl, rfl, rfl, rfl, trivial⟩
        · skip
          refine R_aload_n dX9_serves_40 rfl rfl rfl ?_
          refine R_iload_n dX9_serves_41 rfl rfl ?_
          refine R_iconst dX9_serves_42 (v := zI (1)) rfl ?_
          refine R_cV2 0 dX9_serves_43 rfl cv_X9_49 mh_get0 rfl rfl (Nat.le_of_ble_eq_true rfl) (Nat.zero_le _) (sp_X9_has (by first | assumption | exact hI.1 _ | exact hI1.1 _ | exact hI2.1 _ | omega | (refine ⟨?_, ?_⟩ <;> omega)) (kq.v ?_))
          refine R_iload_n dX9_serves_46 rfl rfl ?_
          refine Z_icmp_ne dX9_serves_47 (by first | exact hI.1 _ | assumption | exact hI1.1 _ | exact hI2.1 _ | exact ⟨by omega, by omega⟩) (by first | exact hI.1 _ | assumption | exact hI1.1 _ | exact hI2.1 _ | exact ⟨by omega, by omega⟩) (tgt := 78) (by decide) (fun c_47 => ?_) (fun c_47 => ?_)
          · skip
            exact js_20 _ _ (by first | (rw [if_pos ⟨‹_›, ‹_›, ‹_›⟩]; rfl) | (rw [if_neg (by omega)])) ⟨rfl, rfl, rfl, rfl, trivial⟩
          · skip
            refine R_aload_n dX9_serves_50 rfl rfl rfl ?_
            refine R_iload_n dX9_serves_51 rfl rfl ?_
            refine R_iconst dX9_serves_52 (v := zI (4)) rfl ?_
            refine R_iconst dX9_serves_53 (v := zI (2)) rfl ?_
            refine R_cV3 0 dX9_serves_54 rfl cv_X9_103 mh_get0 rfl rfl (Nat.le_of_ble_eq_true rfl) (Nat.zero_le _) (sp_X9_put (by first | assumption | exact hI.1 _ | exact hI1.1 _ | exact hI2.1 _ | omega | (refine ⟨?_, ?_⟩ <;> omega)) (kq.n ?_))
            refine R_aload_n dX9_serves_57 rfl rfl rfl ?_
            refine Zm_gf dX9_serves_58 gf_X9_7 rfl ?_
            refine R_sipush dX9_serves_61 (v := zI (170)) rfl ?_
            refine R_iload_n dX9_serves_64 rfl rfl ?_
            refine R_iconst dX9_serves_65 (v := zI (2)) rfl ?_
            refine Z_idiv2 dX9_serves_66 (by omega) ?_
            refine Z_iadd dX9_serves_67 ?_
            refine R_dup2 dX9_serves_68 rfl rfl ?_
            refine Zm_ld1 dX9_serves_69 (by omega) ?_
            refine R_aload_n dX9_serves_70 rfl rfl rfl ?_
            refine R_iload_n dX9_serves_71 rfl rfl ?_
            refine R_iconst dX9_serves_72 (v := zI (3)) rfl ?_
            refine R_cV2 0 dX9_serves_73 rfl cv_X9_49 mh_get0 rfl rfl (Nat.le_of_ble_eq_true rfl) (Nat.zero_le _) (sp_X9_has (by first | assumption | exact hI.1 _ | exact hI1.1 _ | exact hI2.1 _ | omega | (refine ⟨?_, ?_⟩ <;> omega)) (kq.v ?_))
            refine Z_iadd dX9_serves_76 ?_
            refine Zm_st1 dX9_serves_77 (by omega) ?_
            exact js_20 _ _ (by first | (rw [if_pos ⟨‹_›, ‹_›, ‹_›⟩]; rfl) | (rw [if_neg (by omega)])) ⟨rfl, rfl, rfl, rfl, trivial⟩

theorem lp_serve2 {Ω : Wd} {d r : Nat} {Q : Hp → Out → Prop} {b : Nat} {h0 : Hp} {c j : Int} (hc : 0 ≤ c ∧ c < 4) (hj : rg j) : ∀ (k : Nat) (σ : St) (p : Int), MI σ → (1 ≤ σ 166 ∧ σ 166 ≤ 9) → (p = -1 ∨ 0 ≤ p ∧ p < σ 117) → takE σ c j p k → At Ω M_X9_serves (d + 3) r Q 144 [some (.ref b), none, none, none, none] [] (mh b h0 (takS σ c j p k)) → At Ω M_X9_serves (d + 3) r Q 91 [some (.ref b), some (.int (zI c)), some (.int (zI j)), some (.int (zI p)), none] [] (mh b h0 σ) := by
  intro k
  induction k with
  | zero =>
    intro σ p hI hcap hp hE hX
    have h117 := hI.2.2.1
    have hE0 : p = -1 := hE
    refine R_iload_n dX9_serves_91 rfl rfl ?_
    refine R_iconst dX9_serves_92 (v := zI (-1)) rfl ?_
    refine Z_icmp_eq dX9_serves_93 (by first | exact hI.1 _ | assumption | exact hI1.1 _ | exact hI2.1 _ | exact ⟨by omega, by omega⟩) (by first | exact hI.1 _ | assumption | exact hI1.1 _ | exact hI2.1 _ | exact ⟨by omega, by omega⟩) (tgt := 144) (by decide) (fun c_93 => ?_) (fun c_93 => absurd c_93 (by omega))
    exact At.dropS [some (.ref b), none, none, none, none] ⟨rfl, trivial⟩ hX
  | succ k ih =>
    intro σ p hI hcap hp hE hX
    have h117 := hI.2.2.1
    have hb := nxtF_bd hI j p
    have hcb := carF_bd (c := c) hcap
    have hlb := loadF_bd hI c
    have e166 : tak1 σ c p 166 = σ 166 := tak1_out (by omega) (by omega)
    have e117 : p ≠ -1 → tak1 σ c p 117 = σ 117 := fun z => tak1_out (by omega) (by omega)
    refine R_iload_n dX9_serves_91 rfl rfl ?_
    refine R_iconst dX9_serves_92 (v := zI (-1)) rfl ?_
    refine Z_icmp_eq dX9_serves_93 (by first | exact hI.1 _ | assumption | exact hI1.1 _ | exact hI2.1 _ | exact ⟨by omega, by omega⟩) (by first | exact hI.1 _ | assumption | exact hI1.1 _ | exact hI2.1 _ | exact ⟨by omega, by omega⟩) (tgt := 144) (by decide) (fun c_93 => ?_) (fun c_93 => ?_)
    · skip
      refine At.dropS [some (.ref b), none, none, none, none] ⟨rfl, trivial⟩ ?_
      unfold takS at hX
      rw [if_pos c_93] at hX
      exact hX
    · skip
      refine R_aload_n dX9_serves_96 rfl rfl rfl ?_
      refine R_iload_n dX9_serves_97 rfl rfl ?_
      refine R_iload_n dX9_serves_98 rfl rfl ?_
      refine R_cV2 0 dX9_serves_99 rfl cv_X9_106 mh_get0 rfl rfl (Nat.le_of_ble_eq_true rfl) (Nat.zero_le _) (sp_X9_nextParcel (by first | assumption | exact hI.1 _ | exact hI1.1 _ | exact hI2.1 _ | omega | (refine ⟨?_, ?_⟩ <;> omega)) (by first | assumption | exact hI.1 _ | exact hI1.1 _ | exact hI2.1 _ | omega | (refine ⟨?_, ?_⟩ <;> omega)) (by first | assumption | exact hI.1 _ | exact hI1.1 _ | exact hI2.1 _ | omega | (refine ⟨?_, ?_⟩ <;> omega)) (by first | assumption | exact hI.1 _ | exact hI1.1 _ | exact hI2.1 _ | omega | (refine ⟨?_, ?_⟩ <;> omega)) (kq.v ?_))
      refine R_istore dX9_serves_102 (by decide) rfl rfl ?_
      refine z_joinS [some (.ref b), some (.int (zI (c))), some (.int (zI (j))), some (.int (zI (p))), some (.int (zI (nxtF σ j p)))] (tak1 σ c p) 138 ?_ (fun js_104 => ?_)
      · skip
        refine R_iload dX9_serves_138 rfl ?_
        refine R_istore_n dX9_serves_140 rfl (by decide) rfl rfl ?_
        refine R_goto dX9_serves_141 (tgt := 91) (by decide) ?_
        refine At.dropS [some (.ref b), some (.int (zI c)), some (.int (zI j)), some (.int (zI (nxtF σ j p))), none] ⟨rfl, rfl, rfl, rfl, trivial⟩ (ih _ _ (tak1_MI hI hc (by omega)) (by rw [e166]; exact hcap) (by have := e117 c_93; omega) (hE.resolve_left c_93) ?_)
        unfold takS at hX
        rw [if_neg c_93] at hX
        exact hX
      · skip
        refine R_aload_n dX9_serves_104 rfl rfl rfl ?_
        refine R_iload_n dX9_serves_105 rfl rfl ?_
        have hw := hI.2.2.2.2.2.2.2.2 p (by omega)
        refine R_cV1 0 dX9_serves_106 rfl cv_X9_94 mh_get0 rfl rfl (Nat.le_of_ble_eq_true rfl) (Nat.zero_le _) (sp_X9_load (by first | assumption | exact hI.1 _ | exact hI1.1 _ | exact hI2.1 _ | omega | (refine ⟨?_, ?_⟩ <;> omega)) (by first | assumption | exact hI.1 _ | exact hI1.1 _ | exact hI2.1 _ | omega | (refine ⟨?_, ?_⟩ <;> omega)) (kq.v ?_))
        refine R_aload_n dX9_serves_109 rfl rfl rfl ?_
        refine R_iload_n dX9_serves_110 rfl rfl ?_
        refine R_iconst dX9_serves_111 (v := zI (2)) rfl ?_
        refine R_cV2 0 dX9_serves_112 rfl cv_X9_49 mh_get0 rfl rfl (Nat.le_of_ble_eq_true rfl) (Nat.zero_le _) (sp_X9_has (by first | assumption | exact hI.1 _ | exact hI1.1 _ | exact hI2.1 _ | omega | (refine ⟨?_, ?_⟩ <;> omega)) (kq.v ?_))
        refine Z_iadd dX9_serves_115 ?_
        refine R_aload_n dX9_serves_116 rfl rfl rfl ?_
        refine R_iload_n dX9_serves_117 rfl rfl ?_
        refine R_cV1 0 dX9_serves_118 rfl cv_X9_109 mh_get0 rfl rfl (Nat.le_of_ble_eq_true rfl) (Nat.zero_le _) (sp_X9_carries (by first | assumption | exact hI.1 _ | exact hI1.1 _ | exact hI2.1 _ | omega | (refine ⟨?_, ?_⟩ <;> omega)) (by first | assumption | exact hI.1 _ | exact hI1.1 _ | exact hI2.1 _ | omega | (refine ⟨?_, ?_⟩ <;> omega)) (kq.v ?_))
        refine Z_icmp_gt dX9_serves_121 (by first | exact hI.1 _ | assumption | exact hI1.1 _ | exact hI2.1 _ | exact ⟨by omega, by omega⟩) (by first | exact hI.1 _ | assumption | exact hI1.1 _ | exact hI2.1 _ | exact ⟨by omega, by omega⟩) (tgt := 138) (by decide) (fun c_121 => ?_) (fun c_121 => ?_)
        · skip
          exact js_104 _ _ (by unfold tak1; first | (rw [if_pos (by omega)]; done) | (rw [if_neg (by omega)]; done)) ⟨rfl, rfl, rfl, rfl, rfl, trivial⟩
        · skip
          refine R_aload_n dX9_serves_124 rfl rfl rfl ?_
          refine R_iload_n dX9_serves_125 rfl rfl ?_
          refine R_iconst dX9_serves_126 (v := zI (4)) rfl ?_
          refine R_iconst dX9_serves_127 (v := zI (1)) rfl ?_
          refine R_cV3 0 dX9_serves_128 rfl cv_X9_103 mh_get0 rfl rfl (Nat.le_of_ble_eq_true rfl) (Nat.zero_le _) (sp_X9_put (by first | assumption | exact hI.1 _ | exact hI1.1 _ | exact hI2.1 _ | omega | (refine ⟨?_, ?_⟩ <;> omega)) (kq.n ?_))
          refine R_aload_n dX9_serves_131 rfl rfl rfl ?_
          refine R_iload_n dX9_serves_132 rfl rfl ?_
          refine R_iconst dX9_serves_133 (v := zI (5)) rfl ?_
          refine R_iload_n dX9_serves_134 rfl rfl ?_
          refine R_cV3 0 dX9_serves_135 rfl cv_X9_103 mh_get0 rfl rfl (Nat.le_of_ble_eq_true rfl) (Nat.zero_le _) (sp_X9_put (by first | assumption | exact hI.1 _ | exact hI1.1 _ | exact hI2.1 _ | omega | (refine ⟨?_, ?_⟩ <;> omega)) (kq.n ?_))
          exact js_104 _ _ (by unfold tak1; first | (rw [if_pos (by omega)]; done) | (rw [if_neg (by omega)]; done)) ⟨rfl, rfl, rfl, rfl, rfl, trivial⟩

/-- a courier is served: it delivers, and picks up -/
noncomputable def srvF (σ : St) (c : Int) : St := takS (dlvS σ c (σ (97 + 5 * c + 0)) (σ 117).toNat) c (σ (97 + 5 * c + 0)) (nxtF (dlvS σ c (σ (97 + 5 * c + 0)) (σ 117).toNat) (σ (97 + 5 * c + 0)) (-1)) 9
def srvE (σ : St) (c : Int) : Prop := takE (dlvS σ c (σ (97 + 5 * c + 0)) (σ 117).toNat) c (σ (97 + 5 * c + 0)) (nxtF (dlvS σ c (σ (97 + 5 * c + 0)) (σ 117).toNat) (σ (97 + 5 * c + 0)) (-1)) 9

theorem sp_X9_serves {Ω : Wd} {d r : Nat} {Q : Hp → Out → Prop} {b : Nat} {h0 : Hp} {σ : St} {c B : Int} (hB : B ≤ 2000000) (hI : MI σ) (hcap : 1 ≤ σ 166 ∧ σ 166 ≤ 9) (hc : 0 ≤ c ∧ c < 4) (hP : ptsB B σ) (hE : srvE σ c) (hQ : Q (mh b h0 (srvF σ c)) (.inl none)) : Ok Ω M_X9_serves (d + 3) r [.ref b, .int (zI c)] (mh b h0 (σ)) Q := by
  refine Ok.of (by decide) rfl (Nat.le_of_ble_eq_true rfl) rfl ?_
  have h117 := hI.2.2.1
  have hj : rg (σ (97 + 5 * c + 0)) := hI.1 _
  obtain ⟨hI1, e117, hP1⟩ := dlvS_MI hI (j := σ (97 + 5 * c + 0)) hc hB hP (σ 117).toNat (by omega)
  have hb := nxtF_bd hI1 (σ (97 + 5 * c + 0)) (-1)
  have e166 : dlvS σ c (σ (97 + 5 * c + 0)) (σ 117).toNat 166 = σ 166 := dlvS_out hc (by omega) (by omega) _ (by omega)
  refine R_aload_n dX9_serves_0 rfl rfl rfl ?_
  refine R_iload_n dX9_serves_1 rfl rfl ?_
  refine R_iconst dX9_serves_2 (v := zI (0)) rfl ?_
  refine R_cV2 0 dX9_serves_3 rfl cv_X9_53 mh_get0 rfl rfl (Nat.le_of_ble_eq_true rfl) (Nat.zero_le _) (sp_X9_of (by first | assumption | exact hI.1 _ | exact hI1.1 _ | exact hI2.1 _ | omega | (refine ⟨?_, ?_⟩ <;> omega)) (kq.v ?_))
  refine R_istore_n dX9_serves_6 rfl (by decide) rfl rfl ?_
  refine R_iconst dX9_serves_7 (v := zI (0)) rfl ?_
  refine R_istore_n dX9_serves_8 rfl (by decide) rfl rfl ?_
  refine At.dropS (L' := [some (.ref b), some (.int (zI (c))), some (.int (zI ((σ (97 + 5 * c + 0))))), some (.int (zI (((0 : Nat) : Int)))), none]) ⟨rfl, rfl, rfl, rfl, trivial⟩ (lp_serve1 hI hc hj hB hP _ 0 (Nat.zero_add _) ?_)
  refine R_aload_n dX9_serves_84 rfl rfl rfl ?_
  refine R_iload_n dX9_serves_85 rfl rfl ?_
  refine R_iconst dX9_serves_86 (v := zI (-1)) rfl ?_
  refine R_cV2 0 dX9_serves_87 rfl cv_X9_106 mh_get0 rfl rfl (Nat.le_of_ble_eq_true rfl) (Nat.zero_le _) (sp_X9_nextParcel (by first | assumption | exact hI.1 _ | exact hI1.1 _ | exact hI2.1 _ | omega | (refine ⟨?_, ?_⟩ <;> omega)) (by first | assumption | exact hI.1 _ | exact hI1.1 _ | exact hI2.1 _ | omega | (refine ⟨?_, ?_⟩ <;> omega)) (by first | assumption | exact hI.1 _ | exact hI1.1 _ | exact hI2.1 _ | omega | (refine ⟨?_, ?_⟩ <;> omega)) (by first | assumption | exact hI.1 _ | exact hI1.1 _ | exact hI2.1 _ | omega | (refine ⟨?_, ?_⟩ <;> omega)) (kq.v ?_))
  refine R_istore_n dX9_serves_90 rfl (by decide) rfl rfl ?_
  refine At.dropS [some (.ref b), some (.int (zI c)), some (.int (zI (σ (97 + 5 * c + 0)))), some (.int (zI (nxtF (dlvS σ c (σ (97 + 5 * c + 0)) (σ 117).toNat) (σ (97 + 5 * c + 0)) (-1)))), none] ⟨rfl, rfl, rfl, rfl, trivial⟩ (lp_serve2 hc hj 9 _ _ hI1 (by rw [e166]; exact hcap) (by omega) hE ?_)
  exact Z_retV dX9_serves_144 (rf_v rfl) hQ

/-- one courier's move in a turn -/
def mvA (τ : St) (c : Int) : St := us τ (97 + 5 * c + 4) (τ (710 + c))
def mvB (τ : St) (c : Int) : St := us τ (97 + 5 * c + 0) (τ (1 + 4 * τ (97 + 5 * c + 2) + 1))
def mvC (τ : St) (c : Int) : St := us τ (97 + 5 * c + 3) (τ (97 + 5 * c + 3) + 1)
def mvD (τ : St) (c : Int) : St := us τ 169 (τ 169 + if 1 < τ (710 + c) then 1 else 0)
def mvF (τ : St) (c : Int) : St := mvD (if mvA τ c (710 + c) = 0 then mvC (mvB (mvA τ c) c) c else mvA τ c) c
def trnS (σ : St) : Nat → St
  | 0 => σ
  | n + 1 => mvF (trnS σ n) n
def mvdS (σ : St) : Nat → Int
  | 0 => 0
  | n + 1 => mvdS σ n + if mvA (trnS σ n) n (710 + (n : Int)) = 0 then 1 else 0
noncomputable def srvS (σ : St) : Nat → St
  | 0 => σ
  | n + 1 => us (srvF (srvS σ n) n) (97 + 5 * (n : Int) + 2) (-1)
/-- what a turn needs of a state, to be walked through -/
def tnP (σ : St) : Prop := MI σ ∧ JF σ ∧ (1 ≤ σ 166 ∧ σ 166 ≤ 9) ∧ (∀ c : Int, 0 ≤ c ∧ c < 4 → 0 ≤ σ (710 + c) ∧ σ (710 + c) ≤ 5)
theorem us_P2 {σ : St} {i v k : Int} (h : k ≠ i) : us σ i v k = σ k := us_ne h
theorem mvF_out {τ : St} {c k : Int} (h0 : k ≠ 97 + 5 * c + 0) (h3 : k ≠ 97 + 5 * c + 3) (h4 : k ≠ 97 + 5 * c + 4) (h9 : k ≠ 169) : mvF τ c k = τ k := by
  unfold mvF mvD
  rw [us_ne h9]
  split
  · unfold mvC mvB mvA
    rw [us_ne h3, us_ne h0, us_ne h4]
  · unfold mvA
    rw [us_ne h4]
theorem mvA_tn {τ : St} {c : Int} (hc : 0 ≤ c ∧ c < 4) (h : tnP τ) : tnP (mvA τ c) := by
  obtain ⟨hI, hJ, h166, hf⟩ := h
  unfold mvA
  refine ⟨MI_cour hI hc rfl (Or.inr (Or.inr (Or.inr ⟨Or.inr rfl, hI.1 _⟩))), fun c' hc' z => ?_, by rw [us_ne (by omega)]; exact h166, fun c' hc' => by rw [us_ne (by omega)]; exact hf c' hc'⟩
  rw [us_ne (by omega)] at z ⊢
  exact hJ c' hc' z
theorem mvB_tn {τ : St} {c : Int} (hc : 0 ≤ c ∧ c < 4) (h : tnP τ) (hz : τ (710 + c) = 0) : tnP (mvB τ c) := by
  obtain ⟨hI, hJ, h166, hf⟩ := h
  have ho := hJ c hc hz
  have h7 := (hI.2.2.2.2.2.2.1 c hc).2.2
  have h8 := (hI.2.2.2.2.2.2.2.1 (τ (97 + 5 * c + 2)) (by omega)).2.1
  unfold mvB
  refine ⟨MI_cour hI hc rfl (Or.inl ⟨rfl, h8⟩), fun c' hc' z => ?_, by rw [us_ne (by omega)]; exact h166, fun c' hc' => by rw [us_ne (by omega)]; exact hf c' hc'⟩
  rw [us_ne (by omega)] at z ⊢
  exact hJ c' hc' z
theorem mvC_tn {τ : St} {c : Int} (hc : 0 ≤ c ∧ c < 4) (h : tnP τ) (hr : rg (τ (97 + 5 * c + 3) + 1)) : tnP (mvC τ c) := by
  obtain ⟨hI, hJ, h166, hf⟩ := h
  unfold mvC
  refine ⟨MI_cour hI hc rfl (Or.inr (Or.inr (Or.inr ⟨Or.inl rfl, hr⟩))), fun c' hc' z => ?_, by rw [us_ne (by omega)]; exact h166, fun c' hc' => by rw [us_ne (by omega)]; exact hf c' hc'⟩
  rw [us_ne (by omega)] at z ⊢
  exact hJ c' hc' z
theorem mvD_tn {τ : St} {c : Int} (hc : 0 ≤ c ∧ c < 4) (h : tnP τ) (hr : rg (τ 169 + if 1 < τ (710 + c) then 1 else 0)) : tnP (mvD τ c) := by
  obtain ⟨hI, hJ, h166, hf⟩ := h
  unfold mvD
  refine ⟨MI_free hI (by omega) hr, fun c' hc' z => ?_, by rw [us_ne (by omega)]; exact h166, fun c' hc' => by rw [us_ne (by omega)]; exact hf c' hc'⟩
  rw [us_ne (by omega)] at z ⊢
  exact hJ c' hc' z
theorem trn_inv {σ : St} (h : tnP σ) (hM : ∀ c : Int, 0 ≤ c ∧ c < 4 → 0 ≤ σ (97 + 5 * c + 3) ∧ σ (97 + 5 * c + 3) ≤ 1000) (hF : 0 ≤ σ 169 ∧ σ 169 ≤ 1000) : ∀ n : Nat, n ≤ 4 → tnP (trnS σ n) ∧ (∀ c : Int, (n : Int) ≤ c ∧ c < 4 → trnS σ n (97 + 5 * c + 3) = σ (97 + 5 * c + 3)) ∧ (0 ≤ trnS σ n 169 ∧ trnS σ n 169 ≤ 1000 + n)
  | 0, _ => ⟨h, fun _ _ => rfl, by simp only [trnS]; omega⟩
  | n + 1, hn => by
    obtain ⟨i1, i2, i3⟩ := trn_inv h hM hF n (by omega)
    have hc : 0 ≤ (n : Int) ∧ (n : Int) < 4 := by omega
    have hA := mvA_tn hc i1
    have hX : tnP (if mvA (trnS σ n) n (710 + (n : Int)) = 0 then mvC (mvB (mvA (trnS σ n) n) n) n else mvA (trnS σ n) n) ∧ (if mvA (trnS σ n) n (710 + (n : Int)) = 0 then mvC (mvB (mvA (trnS σ n) n) n) n else mvA (trnS σ n) n) 169 = trnS σ n 169 := by
      split
      · rename_i hz
        have hB := mvB_tn hc hA hz
        have e : mvB (mvA (trnS σ n) n) n (97 + 5 * (n : Int) + 3) = σ (97 + 5 * (n : Int) + 3) := by
          unfold mvB
          rw [us_ne (by omega)]
          unfold mvA
          rw [us_ne (by omega)]
          exact i2 n (by omega)
        have := hM n hc
        refine ⟨mvC_tn hc hB (by rw [e]; exact ⟨by omega, by omega⟩), ?_⟩
        unfold mvC mvB mvA
        rw [us_ne (by omega), us_ne (by omega), us_ne (by omega)]
      · refine ⟨hA, ?_⟩
        unfold mvA
        rw [us_ne (by omega)]
    refine ⟨?_, fun c hc2 => ?_, ?_⟩
    · unfold trnS mvF
      refine mvD_tn hc hX.1 ?_
      rw [hX.2]
      split <;> exact ⟨by omega, by omega⟩
    · unfold trnS
      rw [mvF_out (by omega) (by omega) (by omega) (by omega)]
      exact i2 c (by omega)
    · unfold trnS mvF mvD
      rw [us_eq, hX.2]
      split <;> omega
theorem trnS_out {σ : St} {k : Int} (h : (k < 97 ∨ 117 ≤ k) ∧ k ≠ 169) : ∀ n : Nat, n ≤ 4 → trnS σ n k = σ k
  | 0, _ => rfl
  | n + 1, hn => by
    unfold trnS
    rw [mvF_out (by omega) (by omega) (by omega) (by omega)]
    exact trnS_out h n (by omega)
theorem takS_inv {c j : Int} (hc : 0 ≤ c ∧ c < 4) : ∀ (k : Nat) (σ : St) (p : Int), MI σ → (p = -1 ∨ 0 ≤ p ∧ p < σ 117) → MI (takS σ c j p k) ∧ ∀ q : Int, q < 118 ∨ 166 ≤ q → takS σ c j p k q = σ q
  | 0, σ, p, hI, hp => ⟨hI, fun _ _ => rfl⟩
  | k + 1, σ, p, hI, hp => by
    unfold takS
    split
    · exact ⟨hI, fun _ _ => rfl⟩
    · have h117 := hI.2.2.1
      have hb := nxtF_bd hI j p
      have e117 : tak1 σ c p 117 = σ 117 := tak1_out (by omega) (by omega)
      obtain ⟨a1, a2⟩ := takS_inv (j := j) hc k (tak1 σ c p) (nxtF σ j p) (tak1_MI hI hc (by omega)) (by rw [e117]; omega)
      refine ⟨a1, fun q hq => ?_⟩
      rw [a2 q hq]
      exact tak1_out (by omega) (by omega)
theorem srvF_inv {σ : St} (hI : MI σ) {c B : Int} (hc : 0 ≤ c ∧ c < 4) (hB : B ≤ 2000000) (hP : ptsB B σ) : MI (srvF σ c) ∧ ptsB (B + 72) (srvF σ c) ∧ ∀ q : Int, q < 118 ∨ (166 ≤ q ∧ q < 170) ∨ 172 ≤ q → srvF σ c q = σ q := by
  have h117 := hI.2.2.1
  obtain ⟨hI1, e117, hP1⟩ := dlvS_MI hI (j := σ (97 + 5 * c + 0)) hc hB hP (σ 117).toNat (by omega)
  have hb := nxtF_bd hI1 (σ (97 + 5 * c + 0)) (-1)
  obtain ⟨a1, a2⟩ := takS_inv (j := σ (97 + 5 * c + 0)) hc 9 _ _ hI1 (by omega : nxtF (dlvS σ c (σ (97 + 5 * c + 0)) (σ 117).toNat) (σ (97 + 5 * c + 0)) (-1) = -1 ∨ _)
  refine ⟨a1, fun z hz => ?_, fun q hq => ?_⟩
  · have := hP1 z hz
    unfold srvF
    rw [a2 _ (by omega)]
    omega
  · unfold srvF
    rw [a2 _ (by omega)]
    exact dlvS_out hc (by omega) (by omega) _ (by omega)
theorem srvS_inv {σ : St} (hI : MI σ) (hP : ptsB 1000000 σ) : ∀ n : Nat, n ≤ 4 → MI (srvS σ n) ∧ ptsB (1000000 + 72 * n) (srvS σ n) ∧ ∀ q : Int, q < 97 ∨ q = 117 ∨ (166 ≤ q ∧ q < 170) ∨ 172 ≤ q → srvS σ n q = σ q
  | 0, _ => ⟨hI, fun z hz => by have := hP z hz; simp only [srvS]; omega, fun _ _ => rfl⟩
  | n + 1, hn => by
    obtain ⟨i1, i2, i3⟩ := srvS_inv hI hP n (by omega)
    obtain ⟨a1, a2, a3⟩ := srvF_inv i1 (c := n) (by omega) (by omega) i2
    have h0 := a1.2.1
    unfold srvS
    refine ⟨MI_cour a1 (c := n) (w := 2) (by omega) rfl (by omega), fun z hz => ?_, fun q hq => ?_⟩
    · have := a2 z hz
      rw [us_ne (by omega)]
      omega
    · rw [us_ne (by omega), a3 q (by omega)]
      exact i3 q hq
theorem forS_inv : ∀ (k : Nat) (σ : St), MI σ → JF σ → (∀ c : Int, 0 ≤ c ∧ c < 4 → 0 ≤ σ (710 + c) ∧ σ (710 + c) ≤ 5) → (MI (forS σ k) ∧ JF (forS σ k) ∧ (∀ c : Int, 0 ≤ c ∧ c < 4 → 0 ≤ forS σ k (710 + c) ∧ forS σ k (710 + c) ≤ 5)) ∧ ∀ q : Int, q < 710 ∨ 724 ≤ q → forS σ k q = σ q
  | 0, σ, h1, h2, h3 => ⟨⟨h1, h2, h3⟩, fun _ _ => rfl⟩
  | k + 1, σ, h1, h2, h3 => by
    have hr : ∀ c : Int, 0 ≤ c ∧ c < 4 → 0 ≤ roundF σ (710 + c) ∧ roundF σ (710 + c) ≤ 5 := by
      intro c hc
      unfold roundF
      rw [rdS_at 4 c (by omega) (by omega)]
      split
      · exact failF_bd _ _
      · rw [o1S_at 4 c (by omega) (by omega)]
        exact h3 c hc
    have ho : ∀ q : Int, q < 710 ∨ 724 ≤ q → roundF σ q = σ q := by
      intro q hq
      unfold roundF
      rw [rdS_out 4 (by omega), o1S_out 4 (by omega)]
    unfold forS
    split
    · obtain ⟨a1, a2⟩ := forS_inv k (roundF σ) (round_MI h1) (JF_round h2) hr
      exact ⟨a1, fun q hq => by rw [a2 q hq, ho q hq]⟩
    · exact ⟨⟨round_MI h1, JF_round h2, hr⟩, ho⟩
theorem forF_inv {σ : St} (hI : MI σ) : (MI (forF σ) ∧ JF (forF σ) ∧ (∀ c : Int, 0 ≤ c ∧ c < 4 → 0 ≤ forF σ (710 + c) ∧ forF σ (710 + c) ≤ 5)) ∧ ∀ q : Int, q < 710 ∨ 724 ≤ q → forF σ q = σ q := by
  obtain ⟨a1, a2⟩ := forS_inv 5 (f0S σ 4) (f0S_MI hI 4) (JF_f0 hI) (fun c hc => by rw [f0S_at 4 c (by omega) (by omega)]; split <;> omega)
  exact ⟨a1, fun q hq => by rw [forF, a2 q hq, f0S_out 4 (by omega)]⟩

theorem lp_turn1 {Ω : Wd} {d r : Nat} {Q : Hp → Out → Prop} {b : Nat} {h0 : Hp} {σ : St}  (h : tnP σ) (hM : ∀ c : Int, 0 ≤ c ∧ c < 4 → 0 ≤ σ (97 + 5 * c + 3) ∧ σ (97 + 5 * c + 3) ≤ 1000) (hF : 0 ≤ σ 169 ∧ σ 169 ≤ 1000) : ∀ (k n : Nat), n + k = 4 → At Ω M_X9_turns (d + 4) r Q 99 [some (.ref b), some (.int (zI (mvdS σ 4))), none] [] (mh b h0 (trnS σ 4)) → At Ω M_X9_turns (d + 4) r Q 8 [some (.ref b), some (.int (zI (mvdS σ n))), some (.int (zI (((n : Nat) : Int))))] [] (mh b h0 (trnS σ n)) := by
  intro k
  induction k with
  | zero =>
    intro n hn hX
    have hnN : n = 4 := by omega
    rw [hnN]
    refine R_iload_n dX9_turns_8 rfl rfl ?_
    refine R_iconst dX9_turns_9 (v := zI (4)) rfl ?_
    refine Z_icmp_ge dX9_turns_10 (by first | exact hI.1 _ | assumption | exact hI1.1 _ | exact hI2.1 _ | exact ⟨by omega, by omega⟩) (by first | exact hI.1 _ | assumption | exact hI1.1 _ | exact hI2.1 _ | exact ⟨by omega, by omega⟩) (tgt := 99) (by decide) (fun c_10 => ?_) (fun c_10 => absurd c_10 (by omega))
    exact At.dropS (L' := [some (.ref b), some (.int (zI (mvdS σ 4))), none]) ⟨rfl, rfl, trivial⟩ hX
  | succ k ih =>
    intro n hn hX
    refine R_iload_n dX9_turns_8 rfl rfl ?_
    refine R_iconst dX9_turns_9 (v := zI (4)) rfl ?_
    refine Z_icmp_ge dX9_turns_10 (by first | exact hI.1 _ | assumption | exact hI1.1 _ | exact hI2.1 _ | exact ⟨by omega, by omega⟩) (by first | exact hI.1 _ | assumption | exact hI1.1 _ | exact hI2.1 _ | exact ⟨by omega, by omega⟩) (tgt := 99) (by decide) (fun c_10 => absurd c_10 (by omega)) (fun c_10 => ?_)
    obtain ⟨i1, i2, i3⟩ := trn_inv h hM hF n (by omega)
    have hA := mvA_tn (c := n) (by omega) i1
    have hI := i1.1
    have hI1 := hA.1
    refine R_aload_n dX9_turns_13 rfl rfl rfl ?_
    refine R_iload_n dX9_turns_14 rfl rfl ?_
    refine R_iconst dX9_turns_15 (v := zI (4)) rfl ?_
    refine R_aload_n dX9_turns_16 rfl rfl rfl ?_
    refine Zm_gf dX9_turns_17 gf_X9_22 rfl ?_
    refine R_iload_n dX9_turns_20 rfl rfl ?_
    refine Zm_ld5 dX9_turns_21 (by omega) ?_
    refine R_cV3 0 dX9_turns_22 rfl cv_X9_31 mh_get0 rfl rfl (Nat.le_of_ble_eq_true rfl) (Nat.zero_le _) (sp_X9_lay (by first | assumption | exact hI.1 _ | exact hI1.1 _ | exact hI2.1 _ | omega | (refine ⟨?_, ?_⟩ <;> omega)) (kq.n ?_))
    show At Ω _ _ _ _ _ _ _ (mh b h0 (mvA (trnS σ n) n))
    refine z_joinS [some (.ref b), some (.int (zI (mvdS σ n + (if mvA (trnS σ n) ((n : Nat) : Int) (710 + ((n : Nat) : Int)) = 0 then 1 else 0)))), some (.int (zI (((n : Nat) : Int))))] (if mvA (trnS σ n) ((n : Nat) : Int) (710 + ((n : Nat) : Int)) = 0 then mvC (mvB (mvA (trnS σ n) ((n : Nat) : Int)) ((n : Nat) : Int)) ((n : Nat) : Int) else mvA (trnS σ n) ((n : Nat) : Int)) 67 ?_ (fun js_25 => ?_)
    · skip
      have hfx : ∀ (τ : St), τ = (if mvA (trnS σ n) n (710 + (n : Int)) = 0 then mvC (mvB (mvA (trnS σ n) n) n) n else mvA (trnS σ n) n) → rg (τ (710 + (n : Int))) := fun τ e => by subst e; have := hA.2.2.2 n (by omega); split; (unfold mvC mvB; rw [us_ne (by omega), us_ne (by omega)]; exact ⟨by omega, by omega⟩); exact ⟨by omega, by omega⟩
      refine R_aload_n dX9_turns_67 rfl rfl rfl ?_
      refine Zm_gf dX9_turns_68 gf_X9_7 rfl ?_
      refine R_sipush dX9_turns_71 (v := zI (169)) rfl ?_
      refine R_dup2 dX9_turns_74 rfl rfl ?_
      refine Zm_ld1 dX9_turns_75 (by omega) ?_
      refine z_joinI (if 1 < (if mvA (trnS σ n) ((n : Nat) : Int) (710 + ((n : Nat) : Int)) = 0 then mvC (mvB (mvA (trnS σ n) ((n : Nat) : Int)) ((n : Nat) : Int)) ((n : Nat) : Int) else mvA (trnS σ n) ((n : Nat) : Int)) (710 + ((n : Nat) : Int)) then 1 else 0) 91 ?_ (fun jj_76 => ?_)
      · skip
        refine Z_iadd dX9_turns_91 ?_
        refine Zm_st1 dX9_turns_92 (by omega) ?_
        refine Z_iinc dX9_turns_93 rfl (by decide) rfl rfl ?_
        refine R_goto dX9_turns_96 (tgt := 8) (by decide) ?_
        exact At.dropS (L' := [some (.ref b), some (.int (zI (mvdS σ (n + 1)))), some (.int (zI ((((n + 1) : Nat) : Int))))]) ⟨rfl, rfl, rfl, trivial⟩ (ih (n + 1) (by omega) hX)
      · skip
        refine R_aload_n dX9_turns_76 rfl rfl rfl ?_
        refine Zm_gf dX9_turns_77 gf_X9_22 rfl ?_
        refine R_iload_n dX9_turns_80 rfl rfl ?_
        refine Zm_ld5 dX9_turns_81 (by omega) ?_
        refine R_iconst dX9_turns_82 (v := zI (1)) rfl ?_
        refine Z_icmp_le dX9_turns_83 (by first | exact hfx _ rfl | exact ⟨by decide, by decide⟩) (by first | exact hfx _ rfl | exact ⟨by decide, by decide⟩) (tgt := 90) (by decide) (fun c_83 => ?_) (fun c_83 => ?_)
        · skip
          refine R_iconst dX9_turns_90 (v := zI (0)) rfl ?_
          exact jj_76 _ (by first | (rw [if_pos (by assumption)]; done) | (rw [if_neg (by omega)]; done))
        · skip
          refine R_iconst dX9_turns_86 (v := zI (1)) rfl ?_
          refine R_goto dX9_turns_87 (tgt := 91) (by decide) ?_
          exact jj_76 _ (by first | (rw [if_pos (by assumption)]; done) | (rw [if_neg (by omega)]; done))
    · skip
      refine R_aload_n dX9_turns_25 rfl rfl rfl ?_
      refine Zm_gf dX9_turns_26 gf_X9_22 rfl ?_
      refine R_iload_n dX9_turns_29 rfl rfl ?_
      refine Zm_ld5 dX9_turns_30 (by omega) ?_
      refine Z_if_ne dX9_turns_31 (by first | exact hI.1 _ | assumption | exact hI1.1 _ | exact hI2.1 _ | exact ⟨by omega, by omega⟩) (tgt := 67) (by decide) (fun c_31 => ?_) (fun c_31 => ?_)
      · skip
        exact js_25 _ _ (by first | (rw [if_pos ‹_›]; rfl) | (rw [if_neg ‹_›])) (by first | (rw [if_pos ‹_›]; exact ⟨rfl, rfl, rfl, trivial⟩) | (rw [if_neg ‹_›, Int.add_zero]; exact ⟨rfl, rfl, rfl, trivial⟩))
      · skip
        have hJ2 := hA.2.1 _ (by omega) c_31
        have hO2 := hI1.2.2.2.2.2.2.1 ((n : Nat) : Int) (by omega)
        have h02 := hI1.2.1
        refine R_aload_n dX9_turns_34 rfl rfl rfl ?_
        refine R_iload_n dX9_turns_35 rfl rfl ?_
        refine R_iconst dX9_turns_36 (v := zI (0)) rfl ?_
        refine R_aload_n dX9_turns_37 rfl rfl rfl ?_
        refine R_aload_n dX9_turns_38 rfl rfl rfl ?_
        refine R_iload_n dX9_turns_39 rfl rfl ?_
        refine R_iconst dX9_turns_40 (v := zI (2)) rfl ?_
        refine R_cV2 0 dX9_turns_41 rfl cv_X9_53 mh_get0 rfl rfl (Nat.le_of_ble_eq_true rfl) (Nat.zero_le _) (sp_X9_of (by first | assumption | exact hI.1 _ | exact hI1.1 _ | exact hI2.1 _ | omega | (refine ⟨?_, ?_⟩ <;> omega)) (kq.v ?_))
        refine R_cV1 0 dX9_turns_44 rfl cv_X9_91 mh_get0 rfl rfl (Nat.le_of_ble_eq_true rfl) (Nat.zero_le _) (sp_X9_to (by first | assumption | exact hI.1 _ | exact hI1.1 _ | exact hI2.1 _ | omega | (refine ⟨?_, ?_⟩ <;> omega)) (kq.v ?_))
        refine R_cV3 0 dX9_turns_47 rfl cv_X9_31 mh_get0 rfl rfl (Nat.le_of_ble_eq_true rfl) (Nat.zero_le _) (sp_X9_lay (by first | assumption | exact hI.1 _ | exact hI1.1 _ | exact hI2.1 _ | omega | (refine ⟨?_, ?_⟩ <;> omega)) (kq.n ?_))
        refine R_aload_n dX9_turns_50 rfl rfl rfl ?_
        refine R_iload_n dX9_turns_51 rfl rfl ?_
        refine R_iconst dX9_turns_52 (v := zI (3)) rfl ?_
        refine R_aload_n dX9_turns_53 rfl rfl rfl ?_
        refine R_iload_n dX9_turns_54 rfl rfl ?_
        refine R_iconst dX9_turns_55 (v := zI (3)) rfl ?_
        refine R_cV2 0 dX9_turns_56 rfl cv_X9_53 mh_get0 rfl rfl (Nat.le_of_ble_eq_true rfl) (Nat.zero_le _) (sp_X9_of (by first | assumption | exact hI.1 _ | exact hI1.1 _ | exact hI2.1 _ | omega | (refine ⟨?_, ?_⟩ <;> omega)) (kq.v ?_))
        refine R_iconst dX9_turns_59 (v := zI (1)) rfl ?_
        refine Z_iadd dX9_turns_60 ?_
        refine R_cV3 0 dX9_turns_61 rfl cv_X9_31 mh_get0 rfl rfl (Nat.le_of_ble_eq_true rfl) (Nat.zero_le _) (sp_X9_lay (by first | assumption | exact hI.1 _ | exact hI1.1 _ | exact hI2.1 _ | omega | (refine ⟨?_, ?_⟩ <;> omega)) (kq.n ?_))
        refine Z_iinc dX9_turns_64 rfl (by decide) rfl rfl ?_
        exact js_25 _ _ (by first | (rw [if_pos ‹_›]; rfl) | (rw [if_neg ‹_›])) (by first | (rw [if_pos ‹_›]; exact ⟨rfl, rfl, rfl, trivial⟩) | (rw [if_neg ‹_›, Int.add_zero]; exact ⟨rfl, rfl, rfl, trivial⟩))


theorem lp_turn2 {Ω : Wd} {d r : Nat} {Q : Hp → Out → Prop} {b : Nat} {h0 : Hp} {σ : St} {m : Int} (hI0 : MI σ) (hcap : 1 ≤ σ 166 ∧ σ 166 ≤ 9) (hP : ptsB 1000000 σ) (hE : ∀ n : Nat, n < 4 → srvE (srvS σ n) n) : ∀ (k n : Nat), n + k = 4 → At Ω M_X9_turns (d + 4) r Q 124 [some (.ref b), some (.int (zI (m))), none] [] (mh b h0 (srvS σ 4)) → At Ω M_X9_turns (d + 4) r Q 101 [some (.ref b), some (.int (zI (m))), some (.int (zI (((n : Nat) : Int))))] [] (mh b h0 (srvS σ n)) := by
  intro k
  induction k with
  | zero =>
    intro n hn hX
    have hnN : n = 4 := by omega
    rw [hnN]
    refine R_iload_n dX9_turns_101 rfl rfl ?_
    refine R_iconst dX9_turns_102 (v := zI (4)) rfl ?_
    refine Z_icmp_ge dX9_turns_103 (by first | exact hI.1 _ | assumption | exact hI1.1 _ | exact hI2.1 _ | exact ⟨by omega, by omega⟩) (by first | exact hI.1 _ | assumption | exact hI1.1 _ | exact hI2.1 _ | exact ⟨by omega, by omega⟩) (tgt := 124) (by decide) (fun c_103 => ?_) (fun c_103 => absurd c_103 (by omega))
    exact At.dropS (L' := [some (.ref b), some (.int (zI (m))), none]) ⟨rfl, rfl, trivial⟩ hX
  | succ k ih =>
    intro n hn hX
    refine R_iload_n dX9_turns_101 rfl rfl ?_
    refine R_iconst dX9_turns_102 (v := zI (4)) rfl ?_
    refine Z_icmp_ge dX9_turns_103 (by first | exact hI.1 _ | assumption | exact hI1.1 _ | exact hI2.1 _ | exact ⟨by omega, by omega⟩) (by first | exact hI.1 _ | assumption | exact hI1.1 _ | exact hI2.1 _ | exact ⟨by omega, by omega⟩) (tgt := 124) (by decide) (fun c_103 => absurd c_103 (by omega)) (fun c_103 => ?_)
    obtain ⟨hI, i2, i3⟩ := srvS_inv hI0 hP n (by omega)
    have hI1 := (srvF_inv hI (c := n) (by omega) (by omega) i2).1
    refine R_aload_n dX9_turns_106 rfl rfl rfl ?_
    refine R_iload_n dX9_turns_107 rfl rfl ?_
    refine R_cV1 0 dX9_turns_108 rfl cv_X9_115 mh_get0 rfl rfl (Nat.le_of_ble_eq_true rfl) (Nat.zero_le _) (sp_X9_serves (B := 1000000 + 72 * (n : Int)) (by omega) hI (by rw [i3 _ (by omega)]; exact hcap) (by omega) i2 (hE n (by omega)) (kq.n ?_))
    refine R_aload_n dX9_turns_111 rfl rfl rfl ?_
    refine R_iload_n dX9_turns_112 rfl rfl ?_
    refine R_iconst dX9_turns_113 (v := zI (2)) rfl ?_
    refine R_iconst dX9_turns_114 (v := zI (-1)) rfl ?_
    refine R_cV3 0 dX9_turns_115 rfl cv_X9_31 mh_get0 rfl rfl (Nat.le_of_ble_eq_true rfl) (Nat.zero_le _) (sp_X9_lay (by first | assumption | exact hI.1 _ | exact hI1.1 _ | exact hI2.1 _ | omega | (refine ⟨?_, ?_⟩ <;> omega)) (kq.n ?_))
    refine Z_iinc dX9_turns_118 rfl (by decide) rfl rfl ?_
    refine R_goto dX9_turns_121 (tgt := 101) (by decide) ?_
    exact At.dropS (L' := [some (.ref b), some (.int (zI (m))), some (.int (zI ((((n + 1) : Nat) : Int))))]) ⟨rfl, rfl, rfl, trivial⟩ (ih (n + 1) (by omega) hX)

/-- a turn -/
noncomputable def trn1 (σ : St) : St := srvS (trnS (forF σ) 4) 4
noncomputable def trn2 (σ : St) : St := us (trn1 σ) 168 (trn1 σ 168 + 1)
noncomputable def turnF (σ : St) : St := notesF (trn2 σ)
noncomputable def movedF (σ : St) : Int := mvdS (forF σ) 4
/-- what is asked for to walk a turn: the loops end, the counts are small -/
def turnE (σ : St) : Prop := endS (f0S σ 4) 5 ∧ (∀ n : Nat, n < 4 → srvE (srvS (trnS (forF σ) 4) n) n) ∧ (1 ≤ σ 166 ∧ σ 166 ≤ 9) ∧ (∀ c : Int, 0 ≤ c ∧ c < 4 → 0 ≤ σ (97 + 5 * c + 3) ∧ σ (97 + 5 * c + 3) ≤ 1000) ∧ (0 ≤ σ 169 ∧ σ 169 ≤ 1000) ∧ ptsB 1000000 σ ∧ σ 174 ≤ 60 ∧ (0 ≤ σ 168 ∧ σ 168 ≤ 60)
theorem turn_inv {σ : St} (hI : MI σ) (hE : turnE σ) : tnP (forF σ) ∧ MI (trn1 σ) ∧ (∀ q : Int, q < 97 ∨ q = 117 ∨ (166 ≤ q ∧ q < 169) ∨ (172 ≤ q ∧ q < 710) ∨ 724 ≤ q → trn1 σ q = σ q) ∧ ptsB 1000000 (trnS (forF σ) 4) := by
  obtain ⟨e1, e2, e3, e4, e5, e6, e7, e8⟩ := hE
  obtain ⟨⟨a1, a2, a3⟩, a4⟩ := forF_inv hI
  have ht : tnP (forF σ) := ⟨a1, a2, by rw [a4 _ (by omega)]; exact e3, a3⟩
  obtain ⟨b1, b2, b3⟩ := trn_inv ht (fun c hc => by rw [a4 _ (by omega)]; exact e4 c hc) (by rw [a4 _ (by omega)]; exact e5) 4 (by omega)
  have hP : ptsB 1000000 (trnS (forF σ) 4) := fun z hz => by
    rw [trnS_out (by omega) 4 (by omega), a4 _ (by omega)]
    exact e6 z hz
  obtain ⟨c1, c2, c3⟩ := srvS_inv b1.1 hP 4 (by omega)
  refine ⟨ht, c1, fun q hq => ?_, hP⟩
  unfold trn1
  rw [c3 q (by omega), trnS_out (by omega) 4 (by omega), a4 q (by omega)]
theorem trn2_MI {σ : St} (hI : MI σ) (hE : turnE σ) : MI (trn2 σ) ∧ trn2 σ 174 ≤ 60 := by
  obtain ⟨-, a1, a2, -⟩ := turn_inv hI hE
  have h8 := hE.2.2.2.2.2.2.2
  have h7 := hE.2.2.2.2.2.2.1
  unfold trn2
  refine ⟨MI_free a1 (by omega) (by rw [a2 168 (by omega)]; exact ⟨by omega, by omega⟩), ?_⟩
  rw [us_ne (by omega), a2 174 (by omega)]
  exact h7

theorem sp_X9_turns {Ω : Wd} {d r : Nat} {Q : Hp → Out → Prop} {b : Nat} {h0 : Hp} {σ : St} (hI : MI σ) (hE : turnE σ) (hQ : Q (mh b h0 (turnF σ)) (.inl (some (.int (zI (movedF σ)))))) : Ok Ω M_X9_turns (d + 4) r [.ref b] (mh b h0 (σ)) Q := by
  refine Ok.of (by decide) rfl (Nat.le_of_ble_eq_true rfl) rfl ?_
  obtain ⟨ht, g1, g2, hP⟩ := turn_inv hI hE
  obtain ⟨e1, e2, e3, e4, e5, e6, e7, e8⟩ := hE
  obtain ⟨⟨a1, a2, a3⟩, a4⟩ := forF_inv hI
  have hM : ∀ c : Int, 0 ≤ c ∧ c < 4 → 0 ≤ forF σ (97 + 5 * c + 3) ∧ forF σ (97 + 5 * c + 3) ≤ 1000 := fun c hc => by rw [a4 _ (by omega)]; exact e4 c hc
  have hF : 0 ≤ forF σ 169 ∧ forF σ 169 ≤ 1000 := by rw [a4 _ (by omega)]; exact e5
  obtain ⟨b1, b2, b3⟩ := trn_inv ht hM hF 4 (by omega)
  refine R_aload_n dX9_turns_0 rfl rfl rfl ?_
  refine R_cV0 0 dX9_turns_1 rfl cv_X9_112 mh_get0 rfl rfl (Nat.le_of_ble_eq_true rfl) (Nat.zero_le _) (sp_X9_foretells (by first | assumption | exact hI.1 _ | exact hI1.1 _ | exact hI2.1 _ | omega | (refine ⟨?_, ?_⟩ <;> omega)) (by first | assumption | exact hI.1 _ | exact hI1.1 _ | exact hI2.1 _ | omega | (refine ⟨?_, ?_⟩ <;> omega)) (kq.n ?_))
  refine R_iconst dX9_turns_4 (v := zI (0)) rfl ?_
  refine R_istore_n dX9_turns_5 rfl (by decide) rfl rfl ?_
  refine R_iconst dX9_turns_6 (v := zI (0)) rfl ?_
  refine R_istore_n dX9_turns_7 rfl (by decide) rfl rfl ?_
  refine At.dropS (L' := [some (.ref b), some (.int (zI (mvdS σ 0))), some (.int (zI (((0 : Nat) : Int))))]) ⟨rfl, rfl, rfl, trivial⟩ (lp_turn1 ht hM hF _ 0 (Nat.zero_add _) ?_)
  refine R_iconst dX9_turns_99 (v := zI (0)) rfl ?_
  refine R_istore_n dX9_turns_100 rfl (by decide) rfl rfl ?_
  refine At.dropS (L' := [some (.ref b), some (.int (zI ((movedF σ)))), some (.int (zI (((0 : Nat) : Int))))]) ⟨rfl, rfl, rfl, trivial⟩ (lp_turn2 b1.1 (by rw [trnS_out (by omega) 4 (by omega), a4 _ (by omega)]; exact e3) hP e2 _ 0 (Nat.zero_add _) ?_)
  refine R_aload_n dX9_turns_124 rfl rfl rfl ?_
  refine Zm_gf dX9_turns_125 gf_X9_7 rfl ?_
  refine R_sipush dX9_turns_128 (v := zI (168)) rfl ?_
  refine R_dup2 dX9_turns_131 rfl rfl ?_
  refine Zm_ld1 dX9_turns_132 (by omega) ?_
  refine R_iconst dX9_turns_133 (v := zI (1)) rfl ?_
  refine Z_iadd dX9_turns_134 ?_
  refine Zm_st1 dX9_turns_135 (by omega) ?_
  show At Ω _ _ _ _ _ _ _ (mh b h0 (trn2 σ))
  refine R_aload_n dX9_turns_136 rfl rfl rfl ?_
  refine R_cV0 0 dX9_turns_137 rfl cv_X9_35 mh_get0 rfl rfl (Nat.le_of_ble_eq_true rfl) (Nat.zero_le _) (sp_X9_notes (trn2_MI hI ⟨e1, e2, e3, e4, e5, e6, e7, e8⟩).1 (trn2_MI hI ⟨e1, e2, e3, e4, e5, e6, e7, e8⟩).2 (kq.n ?_))
  refine R_iload_n dX9_turns_140 rfl rfl ?_
  refine Z_retI dX9_turns_141 (rf_i rfl) ?_
  first | exact hQ | exact mQi hQ rfl (by first | rfl | omega | exact b2i_1 (by omega) | exact b2i_0 (by omega) | (simp [*]; done))

def tgl1 (σ : St) (k : Int) : St := us σ (1 + 4 * k + 3) (if σ (1 + 4 * k + 3) = 1 then 0 else 1)
def tglS (σ : St) (k : Int) : Nat → St
  | 0 => tgl1 σ k
  | n + 1 => us (tglS σ k n) (97 + 5 * (n : Int) + 2) (if tglS σ k n (97 + 5 * (n : Int) + 2) = k ∧ ¬ tglS σ k n (1 + 4 * k + 3) = 1 then -1 else tglS σ k n (97 + 5 * (n : Int) + 2))
/-- a street is opened or closed -/
abbrev tglF (σ : St) (k : Int) : St := tglS σ k 4
theorem tglS_out {σ : St} {k q : Int} (h : q < 97 ∨ 117 ≤ q) : ∀ n : Nat, n ≤ 4 → tglS σ k n q = tgl1 σ k q
  | 0, _ => rfl
  | n + 1, hn => by
    unfold tglS
    rw [us_ne (by omega)]
    exact tglS_out h n (by omega)
theorem tglS_MI {σ : St} (hI : MI σ) {k : Int} (hk : 0 ≤ k ∧ k < σ 0) : ∀ n : Nat, n ≤ 4 → MI (tglS σ k n) ∧ tglS σ k n 0 = σ 0
  | 0, _ => by
    have h0 := hI.2.1
    refine ⟨MI_str hI (k := k) (w := 3) (by omega) rfl (by split <;> omega), ?_⟩
    unfold tglS tgl1
    rw [us_ne (by omega)]
  | n + 1, hn => by
    obtain ⟨i1, i2⟩ := tglS_MI hI hk n (by omega)
    have h7 := (i1.2.2.2.2.2.2.1 n (by omega)).2.2
    unfold tglS
    refine ⟨MI_cour i1 (c := n) (w := 2) (by omega) rfl ?_, by rw [us_ne (by omega)]; exact i2⟩
    split <;> omega

theorem lp_tog {Ω : Wd} {d r : Nat} {Q : Hp → Out → Prop} {b : Nat} {h0 : Hp} {σ : St} {q : Int} (hI0 : MI σ) (hq : 0 ≤ q ∧ q < σ 0) : ∀ (k n : Nat), n + k = 4 → At Ω M_X9_toggles (d + 1) r Q 72 [some (.ref b), some (.int (zI (q))), none] [] (mh b h0 (tglS σ q 4)) → At Ω M_X9_toggles (d + 1) r Q 27 [some (.ref b), some (.int (zI (q))), some (.int (zI (((n : Nat) : Int))))] [] (mh b h0 (tglS σ q n)) := by
  intro k
  induction k with
  | zero =>
    intro n hn hX
    have hnN : n = 4 := by omega
    rw [hnN]
    have h0 := hI0.2.1
    obtain ⟨hI, e0⟩ := tglS_MI hI0 hq 4 (by omega)
    refine R_iload_n dX9_toggles_27 rfl rfl ?_
    refine R_iconst dX9_toggles_28 (v := zI (4)) rfl ?_
    refine Z_icmp_ge dX9_toggles_29 (by first | exact hI.1 _ | assumption | exact hI1.1 _ | exact hI2.1 _ | exact ⟨by omega, by omega⟩) (by first | exact hI.1 _ | assumption | exact hI1.1 _ | exact hI2.1 _ | exact ⟨by omega, by omega⟩) (tgt := 72) (by decide) (fun c_29 => ?_) (fun c_29 => absurd c_29 (by omega))
    exact At.dropS (L' := [some (.ref b), some (.int (zI (q))), none]) ⟨rfl, rfl, trivial⟩ hX
  | succ k ih =>
    intro n hn hX
    have h0 := hI0.2.1
    obtain ⟨hI, e0⟩ := tglS_MI hI0 hq n (by omega)
    refine R_iload_n dX9_toggles_27 rfl rfl ?_
    refine R_iconst dX9_toggles_28 (v := zI (4)) rfl ?_
    refine Z_icmp_ge dX9_toggles_29 (by first | exact hI.1 _ | assumption | exact hI1.1 _ | exact hI2.1 _ | exact ⟨by omega, by omega⟩) (by first | exact hI.1 _ | assumption | exact hI1.1 _ | exact hI2.1 _ | exact ⟨by omega, by omega⟩) (tgt := 72) (by decide) (fun c_29 => absurd c_29 (by omega)) (fun c_29 => ?_)
    refine R_aload_n dX9_toggles_32 rfl rfl rfl ?_
    refine R_iload_n dX9_toggles_33 rfl rfl ?_
    refine R_iconst dX9_toggles_34 (v := zI (2)) rfl ?_
    refine z_joinI (if tglS σ q n (97 + 5 * ((n : Nat) : Int) + 2) = q ∧ ¬ tglS σ q n (1 + 4 * q + 3) = 1 then -1 else tglS σ q n (97 + 5 * ((n : Nat) : Int) + 2)) 63 ?_ (fun jj_35 => ?_)
    · skip
      refine R_cV3 0 dX9_toggles_63 rfl cv_X9_31 mh_get0 rfl rfl (Nat.le_of_ble_eq_true rfl) (Nat.zero_le _) (sp_X9_lay (by first | assumption | exact hI.1 _ | exact hI1.1 _ | exact hI2.1 _ | omega | (refine ⟨?_, ?_⟩ <;> omega)) (kq.n ?_))
      refine Z_iinc dX9_toggles_66 rfl (by decide) rfl rfl ?_
      refine R_goto dX9_toggles_69 (tgt := 27) (by decide) ?_
      exact At.dropS (L' := [some (.ref b), some (.int (zI (q))), some (.int (zI ((((n + 1) : Nat) : Int))))]) ⟨rfl, rfl, rfl, trivial⟩ (ih (n + 1) (by omega) hX)
    · skip
      refine R_aload_n dX9_toggles_35 rfl rfl rfl ?_
      refine R_iload_n dX9_toggles_36 rfl rfl ?_
      refine R_iconst dX9_toggles_37 (v := zI (2)) rfl ?_
      refine R_cV2 0 dX9_toggles_38 rfl cv_X9_53 mh_get0 rfl rfl (Nat.le_of_ble_eq_true rfl) (Nat.zero_le _) (sp_X9_of (by first | assumption | exact hI.1 _ | exact hI1.1 _ | exact hI2.1 _ | omega | (refine ⟨?_, ?_⟩ <;> omega)) (kq.v ?_))
      refine R_iload_n dX9_toggles_41 rfl rfl ?_
      refine Z_icmp_ne dX9_toggles_42 (by first | exact hI.1 _ | assumption | exact hI1.1 _ | exact hI2.1 _ | exact ⟨by omega, by omega⟩) (by first | exact hI.1 _ | assumption | exact hI1.1 _ | exact hI2.1 _ | exact ⟨by omega, by omega⟩) (tgt := 57) (by decide) (fun c_42 => ?_) (fun c_42 => ?_)
      · skip
        refine R_aload_n dX9_toggles_57 rfl rfl rfl ?_
        refine R_iload_n dX9_toggles_58 rfl rfl ?_
        refine R_iconst dX9_toggles_59 (v := zI (2)) rfl ?_
        refine R_cV2 0 dX9_toggles_60 rfl cv_X9_53 mh_get0 rfl rfl (Nat.le_of_ble_eq_true rfl) (Nat.zero_le _) (sp_X9_of (by first | assumption | exact hI.1 _ | exact hI1.1 _ | exact hI2.1 _ | omega | (refine ⟨?_, ?_⟩ <;> omega)) (kq.v ?_))
        exact jj_35 _ (by first | (rw [if_pos (by omega)]; done) | (rw [if_neg (by omega)]; done))
      · skip
        refine R_aload_n dX9_toggles_45 rfl rfl rfl ?_
        refine R_iload_n dX9_toggles_46 rfl rfl ?_
        refine R_cV1 0 dX9_toggles_47 rfl cv_X9_80 mh_get0 rfl rfl (Nat.le_of_ble_eq_true rfl) (Nat.zero_le _) (sp_X9_isFree (by first | assumption | exact hI.1 _ | exact hI1.1 _ | exact hI2.1 _ | omega | (refine ⟨?_, ?_⟩ <;> omega)) (by first | assumption | exact hI.1 _ | exact hI1.1 _ | exact hI2.1 _ | omega | (refine ⟨?_, ?_⟩ <;> omega)) (kq.v ?_))
        refine Z_if_neB dX9_toggles_50 (tgt := 57) (by decide) (fun c_50 => ?_) (fun c_50 => ?_)
        · skip
          refine R_aload_n dX9_toggles_57 rfl rfl rfl ?_
          refine R_iload_n dX9_toggles_58 rfl rfl ?_
          refine R_iconst dX9_toggles_59 (v := zI (2)) rfl ?_
          refine R_cV2 0 dX9_toggles_60 rfl cv_X9_53 mh_get0 rfl rfl (Nat.le_of_ble_eq_true rfl) (Nat.zero_le _) (sp_X9_of (by first | assumption | exact hI.1 _ | exact hI1.1 _ | exact hI2.1 _ | omega | (refine ⟨?_, ?_⟩ <;> omega)) (kq.v ?_))
          exact jj_35 _ (by first | (rw [if_pos (by omega)]; done) | (rw [if_neg (by omega)]; done))
        · skip
          refine R_iconst dX9_toggles_53 (v := zI (-1)) rfl ?_
          refine R_goto dX9_toggles_54 (tgt := 63) (by decide) ?_
          exact jj_35 _ (by first | (rw [if_pos (by omega)]; done) | (rw [if_neg (by omega)]; done))

theorem sp_X9_toggles {Ω : Wd} {d r : Nat} {Q : Hp → Out → Prop} {b : Nat} {h0 : Hp} {σ : St} {q : Int} (hI : MI σ) (hq : 0 ≤ q ∧ q < σ 0) (hQ : Q (mh b h0 (tglF σ q)) (.inl (some (.int (zI (b2i (tglF σ q (1 + 4 * q + 3) = 1))))))) : Ok Ω M_X9_toggles (d + 1) r [.ref b, .int (zI q)] (mh b h0 (σ)) Q := by
  refine Ok.of (by decide) rfl (Nat.le_of_ble_eq_true rfl) rfl ?_
  have h0 := hI.2.1
  have hI1 := (tglS_MI hI hq 4 (by omega)).1
  refine R_aload_n dX9_toggles_0 rfl rfl rfl ?_
  refine Zm_gf dX9_toggles_1 gf_X9_7 rfl ?_
  refine R_iconst dX9_toggles_4 (v := zI (1)) rfl ?_
  refine R_iconst dX9_toggles_5 (v := zI (4)) rfl ?_
  refine R_iload_n dX9_toggles_6 rfl rfl ?_
  refine Z_imul dX9_toggles_7 ?_
  refine Z_iadd dX9_toggles_8 ?_
  refine R_iconst dX9_toggles_9 (v := zI (3)) rfl ?_
  refine Z_iadd dX9_toggles_10 ?_
  refine z_joinI (if σ (1 + 4 * q + 3) = 1 then 0 else 1) 24 ?_ (fun jj_11 => ?_)
  · skip
    refine Zm_st1 dX9_toggles_24 (by omega) ?_
    refine R_iconst dX9_toggles_25 (v := zI (0)) rfl ?_
    refine R_istore_n dX9_toggles_26 rfl (by decide) rfl rfl ?_
    refine At.dropS (L' := [some (.ref b), some (.int (zI (q))), some (.int (zI (((0 : Nat) : Int))))]) ⟨rfl, rfl, rfl, trivial⟩ (lp_tog hI hq _ 0 (Nat.zero_add _) ?_)
    refine R_aload_n dX9_toggles_72 rfl rfl rfl ?_
    refine R_iload_n dX9_toggles_73 rfl rfl ?_
    refine R_cV1 0 dX9_toggles_74 rfl cv_X9_80 mh_get0 rfl rfl (Nat.le_of_ble_eq_true rfl) (Nat.zero_le _) (sp_X9_isFree (by first | assumption | exact hI.1 _ | exact hI1.1 _ | exact hI2.1 _ | omega | (refine ⟨?_, ?_⟩ <;> omega)) (by first | assumption | exact hI.1 _ | exact hI1.1 _ | exact hI2.1 _ | omega | (refine ⟨?_, ?_⟩ <;> omega)) (kq.v ?_))
    refine Z_retI dX9_toggles_77 (rfb rfl) ?_
    first | exact hQ | exact mQi hQ rfl (by first | rfl | omega | exact b2i_1 (by omega) | exact b2i_0 (by omega) | (simp [*]; done))
  · skip
    refine R_aload_n dX9_toggles_11 rfl rfl rfl ?_
    refine R_iload_n dX9_toggles_12 rfl rfl ?_
    refine R_cV1 0 dX9_toggles_13 rfl cv_X9_80 mh_get0 rfl rfl (Nat.le_of_ble_eq_true rfl) (Nat.zero_le _) (sp_X9_isFree (by first | assumption | exact hI.1 _ | exact hI1.1 _ | exact hI2.1 _ | omega | (refine ⟨?_, ?_⟩ <;> omega)) (by first | assumption | exact hI.1 _ | exact hI1.1 _ | exact hI2.1 _ | omega | (refine ⟨?_, ?_⟩ <;> omega)) (kq.v ?_))
    refine Z_if_eqB dX9_toggles_16 (tgt := 23) (by decide) (fun c_16 => ?_) (fun c_16 => ?_)
    · skip
      refine R_iconst dX9_toggles_23 (v := zI (1)) rfl ?_
      exact jj_11 _ (by first | rfl | (simp [*]; done) | omega | grind)
    · skip
      refine R_iconst dX9_toggles_19 (v := zI (0)) rfl ?_
      refine R_goto dX9_toggles_20 (tgt := 24) (by decide) ?_
      exact jj_11 _ (by first | rfl | (simp [*]; done) | omega | grind)

