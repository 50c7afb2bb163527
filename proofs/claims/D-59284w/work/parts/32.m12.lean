/-! the model: reading texts -/
set_option maxRecDepth 100000
/-- the reader stands at a; w: whether something was wrong -/
def ps (σ : St) (a w : Int) : St := us (us σ 704 a) 705 w
theorem ps_4 (σ : St) (a w : Int) : ps σ a w 704 = a := by
  unfold ps
  rw [us_ne (by omega), us_eq]
theorem ps_5 (σ : St) (a w : Int) : ps σ a w 705 = w := us_eq _ _ _
theorem ps_ne {σ : St} {a w k : Int} (h : k ≠ 704 ∧ k ≠ 705) : ps σ a w k = σ k := by
  unfold ps
  rw [us_ne h.2, us_ne h.1]
theorem ps_ext {σ τ : St} {a w : Int} (h4 : τ 704 = a) (h5 : τ 705 = w) (h : ∀ k : Int, k ≠ 704 → k ≠ 705 → τ k = σ k) : τ = ps σ a w := by
  funext k
  by_cases e4 : k = 704
  · subst e4; rw [ps_4, h4]
  · by_cases e5 : k = 705
    · subst e5; rw [ps_5, h5]
    · rw [ps_ne ⟨e4, e5⟩, h k e4 e5]
theorem ps_at (σ : St) (a w v : Int) : us (ps σ a w) 704 v = ps σ v w := ps_ext (us_eq _ _ _) (by rw [us_ne (by omega), ps_5]) (fun k h4 h5 => by rw [us_ne h4, ps_ne ⟨h4, h5⟩])
theorem ps_wr (σ : St) (a w v : Int) : us (ps σ a w) 705 v = ps σ a v := ps_ext (by rw [us_ne (by omega), ps_4]) (us_eq _ _ _) (fun k h4 h5 => by rw [us_ne h5, ps_ne ⟨h4, h5⟩])
theorem ps_self {σ : St} : ps σ (σ 704) (σ 705) = σ := (ps_ext rfl rfl (fun _ _ _ => rfl)).symm
theorem ps_MI {σ : St} (hI : MI σ) {a w : Int} (ha : rg a) (hw : rg w) : MI (ps σ a w) := MI_free (MI_free hI (by omega) ha) (by omega) hw
/-- a sign -/
def sgC (σ : St) (a w : Int) : Int := if a < σ 702 ∧ w = 0 then σ (600 + a) else 0
def sgW (σ : St) (a w lo hi : Int) : Int := if w = 0 ∧ lo ≤ sgC σ a w ∧ sgC σ a w ≤ hi then 0 else 1
def sgA (σ : St) (a w lo hi : Int) : Int := if sgW σ a w lo hi = 0 then a + 1 else a
theorem sgW_bd (σ : St) (a w lo hi : Int) : 0 ≤ sgW σ a w lo hi ∧ sgW σ a w lo hi ≤ 1 := by
  unfold sgW
  split <;> omega
theorem sgA_bd (σ : St) (a w lo hi : Int) : a ≤ sgA σ a w lo hi ∧ sgA σ a w lo hi ≤ a + 1 := by
  unfold sgA
  split <;> omega
theorem sgC_rg {σ : St} (hI : MI σ) (a w : Int) : rg (sgC σ a w) := by
  unfold sgC
  split
  · exact hI.1 _
  · decide

theorem sp_X9_sign {Ω : Wd} {d r : Nat} {Q : Hp → Out → Prop} {b : Nat} {h0 : Hp} {σ : St} {a w lo hi : Int} (hI : MI σ) (ha : 0 ≤ a ∧ a ≤ 1000) (hw : 0 ≤ w ∧ w ≤ 1) (hl : rg lo) (hh : rg hi) (hQ : Q (mh b h0 (ps σ (sgA σ a w lo hi) (sgW σ a w lo hi))) (.inl (some (.int (zI (sgC σ a w)))))) : Ok Ω M_X9_sign (d + 1) r [.ref b, .int (zI lo), .int (zI hi)] (mh b h0 (ps σ a w)) Q := by
  refine Ok.of (by decide) rfl (Nat.le_of_ble_eq_true rfl) rfl ?_
  have hl60 := hI.2.2.2.2.2.1
  have hcr := sgC_rg hI a w
  have hwb := sgW_bd σ a w lo hi
  refine z_joinI (sgC σ a w) 31 ?_ (fun jj_0 => ?_)
  · skip
    refine R_istore_n dX9_sign_31 rfl (by decide) rfl rfl ?_
    refine R_aload_n dX9_sign_32 rfl rfl rfl ?_
    refine z_joinI (sgW σ a w lo hi) 54 ?_ (fun jj_33 => ?_)
    · skip
      refine Zm_pf11 dX9_sign_54 pf_X9_152 (by omega) ?_
      rw [ps_wr]
      refine R_aload_n dX9_sign_57 rfl rfl rfl ?_
      refine R_dup dX9_sign_58 rfl ?_
      refine Zm_gf dX9_sign_59 gf_X9_149 rfl ?_
      rw [ps_4]
      refine z_joinI (if sgW σ a w lo hi = 0 then 1 else 0) 74 ?_ (fun jj_62 => ?_)
      · skip
        refine Z_iadd dX9_sign_74 ?_
        refine Zm_pf10 dX9_sign_75 pf_X9_149 ?_
        refine R_iload_n dX9_sign_78 rfl rfl ?_
        refine Z_retI dX9_sign_79 (rf_i rfl) ?_
        rw [ps_at]
        have e : sgA σ a w lo hi = a + (if sgW σ a w lo hi = 0 then 1 else 0) := by unfold sgA; split <;> omega
        rw [← e]
        exact hQ
      · skip
        refine R_aload_n dX9_sign_62 rfl rfl rfl ?_
        refine Zm_gf dX9_sign_63 gf_X9_152 rfl ?_
        rw [ps_5]
        refine Z_if_eq dX9_sign_66 (by first | exact hI.1 _ | assumption | exact hI1.1 _ | exact hI2.1 _ | exact ⟨by omega, by omega⟩) (tgt := 73) (by decide) (fun c_66 => ?_) (fun c_66 => ?_)
        · skip
          refine R_iconst dX9_sign_73 (v := zI (1)) rfl ?_
          exact jj_62 _ (by first | rfl | (simp [*]; done) | omega | grind)
        · skip
          refine R_iconst dX9_sign_69 (v := zI (0)) rfl ?_
          refine R_goto dX9_sign_70 (tgt := 74) (by decide) ?_
          exact jj_62 _ (by first | rfl | (simp [*]; done) | omega | grind)
    · skip
      refine R_aload_n dX9_sign_33 rfl rfl rfl ?_
      refine Zm_gf dX9_sign_34 gf_X9_152 rfl ?_
      rw [ps_5]
      refine Z_if_ne dX9_sign_37 (by first | exact hI.1 _ | assumption | exact hI1.1 _ | exact hI2.1 _ | exact ⟨by omega, by omega⟩) (tgt := 49) (by decide) (fun c_37 => ?_) (fun c_37 => ?_)
      · skip
        refine R_iconst dX9_sign_49 (v := zI (1)) rfl ?_
        refine R_goto dX9_sign_50 (tgt := 54) (by decide) ?_
        exact jj_33 _ (by unfold sgW; first | (rw [if_pos (by omega)]; done) | (rw [if_neg (by omega)]; done))
      · skip
        refine R_iload_n dX9_sign_40 rfl rfl ?_
        refine R_iload_n dX9_sign_41 rfl rfl ?_
        refine R_iload_n dX9_sign_42 rfl rfl ?_
        refine R_cS3 0 dX9_sign_43 rfl cs_X9_42 (Nat.le_of_ble_eq_true rfl) (Nat.zero_le _) (sp_X9_in (by first | assumption | exact hI.1 _ | exact hI1.1 _ | exact hI2.1 _ | omega | (refine ⟨?_, ?_⟩ <;> omega)) (by first | assumption | exact hI.1 _ | exact hI1.1 _ | exact hI2.1 _ | omega | (refine ⟨?_, ?_⟩ <;> omega)) (by first | assumption | exact hI.1 _ | exact hI1.1 _ | exact hI2.1 _ | omega | (refine ⟨?_, ?_⟩ <;> omega)) (kq.v ?_))
        refine Z_if_neB dX9_sign_46 (tgt := 53) (by decide) (fun c_46 => ?_) (fun c_46 => ?_)
        · skip
          refine R_iconst dX9_sign_53 (v := zI (0)) rfl ?_
          exact jj_33 _ (by unfold sgW; first | (rw [if_pos (by omega)]; done) | (rw [if_neg (by omega)]; done))
        · skip
          refine R_iconst dX9_sign_49 (v := zI (1)) rfl ?_
          refine R_goto dX9_sign_50 (tgt := 54) (by decide) ?_
          exact jj_33 _ (by unfold sgW; first | (rw [if_pos (by omega)]; done) | (rw [if_neg (by omega)]; done))
  · skip
    refine R_aload_n dX9_sign_0 rfl rfl rfl ?_
    refine Zm_gf dX9_sign_1 gf_X9_149 rfl ?_
    rw [ps_4]
    refine R_aload_n dX9_sign_4 rfl rfl rfl ?_
    refine Zm_gf dX9_sign_5 gf_X9_146 rfl ?_
    rw [ps_ne (by omega)]
    refine Z_icmp_ge dX9_sign_8 (by first | exact hI.1 _ | assumption | exact hI1.1 _ | exact hI2.1 _ | exact ⟨by omega, by omega⟩) (by first | exact hI.1 _ | assumption | exact hI1.1 _ | exact hI2.1 _ | exact ⟨by omega, by omega⟩) (tgt := 30) (by decide) (fun c_8 => ?_) (fun c_8 => ?_)
    · skip
      refine R_iconst dX9_sign_30 (v := zI (0)) rfl ?_
      exact jj_0 _ (by unfold sgC; first | (rw [if_pos (by omega)]; done) | (rw [if_neg (by omega)]; done))
    · skip
      refine R_aload_n dX9_sign_11 rfl rfl rfl ?_
      refine Zm_gf dX9_sign_12 gf_X9_152 rfl ?_
      rw [ps_5]
      refine Z_if_ne dX9_sign_15 (by first | exact hI.1 _ | assumption | exact hI1.1 _ | exact hI2.1 _ | exact ⟨by omega, by omega⟩) (tgt := 30) (by decide) (fun c_15 => ?_) (fun c_15 => ?_)
      · skip
        refine R_iconst dX9_sign_30 (v := zI (0)) rfl ?_
        exact jj_0 _ (by unfold sgC; first | (rw [if_pos (by omega)]; done) | (rw [if_neg (by omega)]; done))
      · skip
        refine R_aload_n dX9_sign_18 rfl rfl rfl ?_
        refine Zm_gf dX9_sign_19 gf_X9_19 rfl ?_
        refine R_aload_n dX9_sign_22 rfl rfl rfl ?_
        refine Zm_gf dX9_sign_23 gf_X9_149 rfl ?_
        rw [ps_4]
        refine Zm_ld4 dX9_sign_26 (by omega) ?_
        rw [ps_ne (by omega)]
        refine R_goto dX9_sign_27 (tgt := 31) (by decide) ?_
        exact jj_0 _ (by unfold sgC; first | (rw [if_pos (by omega)]; done) | (rw [if_neg (by omega)]; done))


/-- a number of one or two signs -/
abbrev nuM (σ : St) (a w : Int) : Prop := sgW σ a w 48 57 = 0 ∧ 0 < sgC σ a w - 48 ∧ sgA σ a w 48 57 < σ 702 ∧ (48 ≤ σ (600 + sgA σ a w 48 57) ∧ σ (600 + sgA σ a w 48 57) ≤ 57) ∧ 10 * (sgC σ a w - 48) + σ (600 + sgA σ a w 48 57) - 48 < 24
def nuV (σ : St) (a w : Int) : Int := if nuM σ a w then 10 * (sgC σ a w - 48) + sgC σ (sgA σ a w 48 57) (sgW σ a w 48 57) - 48 else sgC σ a w - 48
def nuA (σ : St) (a w : Int) : Int := if nuM σ a w then sgA σ (sgA σ a w 48 57) (sgW σ a w 48 57) 48 57 else sgA σ a w 48 57
def nuW (σ : St) (a w : Int) : Int := if nuM σ a w then sgW σ (sgA σ a w 48 57) (sgW σ a w 48 57) 48 57 else sgW σ a w 48 57
theorem nuW_bd (σ : St) (a w : Int) : 0 ≤ nuW σ a w ∧ nuW σ a w ≤ 1 := by
  unfold nuW
  split
  · exact sgW_bd ..
  · exact sgW_bd ..
theorem nuA_bd (σ : St) (a w : Int) : a ≤ nuA σ a w ∧ nuA σ a w ≤ a + 2 := by
  have h1 := sgA_bd σ a w 48 57
  have h2 := sgA_bd σ (sgA σ a w 48 57) (sgW σ a w 48 57) 48 57
  unfold nuA
  split <;> omega
theorem sgW_0 {σ : St} {a w lo hi : Int} (h : sgW σ a w lo hi = 0) : w = 0 ∧ lo ≤ sgC σ a w ∧ sgC σ a w ≤ hi := by
  unfold sgW at h
  split at h
  · assumption
  · omega

theorem sp_X9_number {Ω : Wd} {d r : Nat} {Q : Hp → Out → Prop} {b : Nat} {h0 : Hp} {σ : St} {a w : Int} (hI : MI σ) (hb : ∀ k : Int, 0 ≤ k ∧ k < 60 → 0 ≤ σ (600 + k) ∧ σ (600 + k) ≤ 1000) (ha : 0 ≤ a ∧ a ≤ 900) (hw : 0 ≤ w ∧ w ≤ 1) (hQ : Q (mh b h0 (ps σ (nuA σ a w) (nuW σ a w))) (.inl (some (.int (zI (nuV σ a w)))))) : Ok Ω M_X9_number (d + 2) r [.ref b] (mh b h0 (ps σ a w)) Q := by
  refine Ok.of (by decide) rfl (Nat.le_of_ble_eq_true rfl) rfl ?_
  have hl60 := hI.2.2.2.2.2.1
  have hcb : 0 ≤ sgC σ a w ∧ sgC σ a w ≤ 1000 := by unfold sgC; split; exact hb _ (by omega); decide
  have hwb := sgW_bd σ a w 48 57
  have hab := sgA_bd σ a w 48 57
  have hW0 : sgW σ a w 48 57 = 0 → sgC σ a w ≤ 57 := fun z => (sgW_0 z).2.2
  refine R_aload_n dX9_number_0 rfl rfl rfl ?_
  refine R_bipush dX9_number_1 (v := zI (48)) rfl ?_
  refine R_bipush dX9_number_3 (v := zI (57)) rfl ?_
  refine R_cV2 0 dX9_number_5 rfl cv_X9_156 mh_get0 rfl rfl (Nat.le_of_ble_eq_true rfl) (Nat.zero_le _) (sp_X9_sign hI (by omega) (by omega) (by decide) (by decide) (kq.v ?_))
  refine R_bipush dX9_number_8 (v := zI (48)) rfl ?_
  refine Z_isub dX9_number_10 ?_
  refine R_istore_n dX9_number_11 rfl (by decide) rfl rfl ?_
  refine z_joinB (nuM σ a w) 80 ?_ (fun jt_12 jf_12 => ?_)
  · skip
    refine R_istore_n dX9_number_80 rfl (by decide) rfl rfl ?_
    refine R_iload_n dX9_number_81 rfl rfl ?_
    refine Z_if_eqB dX9_number_82 (tgt := 104) (by decide) (fun c_82 => ?_) (fun c_82 => ?_)
    · skip
      refine R_iload_n dX9_number_104 rfl rfl ?_
      refine Z_retI dX9_number_105 (rf_i rfl) ?_
      first | (refine mQi hQ ?_ ?_ <;> (first | unfold nuA nuW | unfold nuV) <;> (first | (rw [if_pos c_82, if_pos c_82]; done) | (rw [if_pos c_82]; done) | (rw [if_neg c_82, if_neg c_82]; done) | (rw [if_neg c_82]; done)))
    · skip
      refine R_bipush dX9_number_85 (v := zI (10)) rfl ?_
      refine R_iload_n dX9_number_87 rfl rfl ?_
      refine Z_imul dX9_number_88 ?_
      refine R_aload_n dX9_number_89 rfl rfl rfl ?_
      refine R_bipush dX9_number_90 (v := zI (48)) rfl ?_
      refine R_bipush dX9_number_92 (v := zI (57)) rfl ?_
      refine R_cV2 0 dX9_number_94 rfl cv_X9_156 mh_get0 rfl rfl (Nat.le_of_ble_eq_true rfl) (Nat.zero_le _) (sp_X9_sign hI (by omega) (by omega) (by decide) (by decide) (kq.v ?_))
      refine Z_iadd dX9_number_97 ?_
      refine R_bipush dX9_number_98 (v := zI (48)) rfl ?_
      refine Z_isub dX9_number_100 ?_
      refine R_goto dX9_number_101 (tgt := 105) (by decide) ?_
      refine Z_retI dX9_number_105 (rf_i rfl) ?_
      first | (refine mQi hQ ?_ ?_ <;> (first | unfold nuA nuW | unfold nuV) <;> (first | (rw [if_pos c_82, if_pos c_82]; done) | (rw [if_pos c_82]; done) | (rw [if_neg c_82, if_neg c_82]; done) | (rw [if_neg c_82]; done)))
  · skip
    refine R_aload_n dX9_number_12 rfl rfl rfl ?_
    refine Zm_gf dX9_number_13 gf_X9_152 rfl ?_
    rw [ps_5]
    refine Z_if_ne dX9_number_16 (by first | exact hI.1 _ | assumption | exact hI1.1 _ | exact hI2.1 _ | exact ⟨by omega, by omega⟩) (tgt := 79) (by decide) (fun c_16 => ?_) (fun c_16 => ?_)
    · skip
      refine R_iconst dX9_number_79 (v := zI (0)) rfl ?_
      exact jf_12 (by first | exact ⟨by omega, by omega, by omega, by omega, by omega⟩ | exact fun z => absurd z.1 (by omega) | exact fun z => absurd z.2.1 (by omega) | exact fun z => absurd z.2.2.1 (by omega) | exact fun z => absurd z.2.2.2.1 (by omega) | exact fun z => absurd z.2.2.2.2 (by omega))
    · skip
      refine R_iload_n dX9_number_19 rfl rfl ?_
      refine Z_if_le dX9_number_20 (by first | exact hI.1 _ | assumption | exact hI1.1 _ | exact hI2.1 _ | exact ⟨by omega, by omega⟩) (tgt := 79) (by decide) (fun c_20 => ?_) (fun c_20 => ?_)
      · skip
        refine R_iconst dX9_number_79 (v := zI (0)) rfl ?_
        exact jf_12 (by first | exact ⟨by omega, by omega, by omega, by omega, by omega⟩ | exact fun z => absurd z.1 (by omega) | exact fun z => absurd z.2.1 (by omega) | exact fun z => absurd z.2.2.1 (by omega) | exact fun z => absurd z.2.2.2.1 (by omega) | exact fun z => absurd z.2.2.2.2 (by omega))
      · skip
        refine R_aload_n dX9_number_23 rfl rfl rfl ?_
        refine Zm_gf dX9_number_24 gf_X9_149 rfl ?_
        rw [ps_4]
        refine R_aload_n dX9_number_27 rfl rfl rfl ?_
        refine Zm_gf dX9_number_28 gf_X9_146 rfl ?_
        rw [ps_ne (by omega)]
        refine Z_icmp_ge dX9_number_31 (by first | exact hI.1 _ | assumption | exact hI1.1 _ | exact hI2.1 _ | exact ⟨by omega, by omega⟩) (by first | exact hI.1 _ | assumption | exact hI1.1 _ | exact hI2.1 _ | exact ⟨by omega, by omega⟩) (tgt := 79) (by decide) (fun c_31 => ?_) (fun c_31 => ?_)
        · skip
          refine R_iconst dX9_number_79 (v := zI (0)) rfl ?_
          exact jf_12 (by first | exact ⟨by omega, by omega, by omega, by omega, by omega⟩ | exact fun z => absurd z.1 (by omega) | exact fun z => absurd z.2.1 (by omega) | exact fun z => absurd z.2.2.1 (by omega) | exact fun z => absurd z.2.2.2.1 (by omega) | exact fun z => absurd z.2.2.2.2 (by omega))
        · skip
          refine R_aload_n dX9_number_34 rfl rfl rfl ?_
          refine Zm_gf dX9_number_35 gf_X9_19 rfl ?_
          refine R_aload_n dX9_number_38 rfl rfl rfl ?_
          refine Zm_gf dX9_number_39 gf_X9_149 rfl ?_
          rw [ps_4]
          refine Zm_ld4 dX9_number_42 (by omega) ?_
          rw [ps_ne (by omega)]
          have hb1 := hb (sgA σ a w 48 57) (by omega)
          refine R_bipush dX9_number_43 (v := zI (48)) rfl ?_
          refine R_bipush dX9_number_45 (v := zI (57)) rfl ?_
          refine R_cS3 0 dX9_number_47 rfl cs_X9_42 (Nat.le_of_ble_eq_true rfl) (Nat.zero_le _) (sp_X9_in (by first | assumption | exact hI.1 _ | exact hI1.1 _ | exact hI2.1 _ | omega | (refine ⟨?_, ?_⟩ <;> omega)) (by first | assumption | exact hI.1 _ | exact hI1.1 _ | exact hI2.1 _ | omega | (refine ⟨?_, ?_⟩ <;> omega)) (by first | assumption | exact hI.1 _ | exact hI1.1 _ | exact hI2.1 _ | omega | (refine ⟨?_, ?_⟩ <;> omega)) (kq.v ?_))
          refine Z_if_eqB dX9_number_50 (tgt := 79) (by decide) (fun c_50 => ?_) (fun c_50 => ?_)
          · skip
            refine R_iconst dX9_number_79 (v := zI (0)) rfl ?_
            exact jf_12 (by first | exact ⟨by omega, by omega, by omega, by omega, by omega⟩ | exact fun z => absurd z.1 (by omega) | exact fun z => absurd z.2.1 (by omega) | exact fun z => absurd z.2.2.1 (by omega) | exact fun z => absurd z.2.2.2.1 (by omega) | exact fun z => absurd z.2.2.2.2 (by omega))
          · skip
            have hW1 := hW0 (by omega)
            refine R_bipush dX9_number_53 (v := zI (10)) rfl ?_
            refine R_iload_n dX9_number_55 rfl rfl ?_
            refine Z_imul dX9_number_56 ?_
            refine R_aload_n dX9_number_57 rfl rfl rfl ?_
            refine Zm_gf dX9_number_58 gf_X9_19 rfl ?_
            refine R_aload_n dX9_number_61 rfl rfl rfl ?_
            refine Zm_gf dX9_number_62 gf_X9_149 rfl ?_
            rw [ps_4]
            refine Zm_ld4 dX9_number_65 (by omega) ?_
            rw [ps_ne (by omega)]
            refine Z_iadd dX9_number_66 ?_
            refine R_bipush dX9_number_67 (v := zI (48)) rfl ?_
            refine Z_isub dX9_number_69 ?_
            refine R_bipush dX9_number_70 (v := zI (24)) rfl ?_
            refine Z_icmp_ge dX9_number_72 (by first | exact hI.1 _ | assumption | exact hI1.1 _ | exact hI2.1 _ | exact ⟨by omega, by omega⟩) (by first | exact hI.1 _ | assumption | exact hI1.1 _ | exact hI2.1 _ | exact ⟨by omega, by omega⟩) (tgt := 79) (by decide) (fun c_72 => ?_) (fun c_72 => ?_)
            · skip
              refine R_iconst dX9_number_79 (v := zI (0)) rfl ?_
              exact jf_12 (by first | exact ⟨by omega, by omega, by omega, by omega, by omega⟩ | exact fun z => absurd z.1 (by omega) | exact fun z => absurd z.2.1 (by omega) | exact fun z => absurd z.2.2.1 (by omega) | exact fun z => absurd z.2.2.2.1 (by omega) | exact fun z => absurd z.2.2.2.2 (by omega))
            · skip
              refine R_iconst dX9_number_75 (v := zI (1)) rfl ?_
              refine R_goto dX9_number_76 (tgt := 80) (by decide) ?_
              exact jt_12 (by first | exact ⟨by omega, by omega, by omega, by omega, by omega⟩ | exact fun z => absurd z.1 (by omega) | exact fun z => absurd z.2.1 (by omega) | exact fun z => absurd z.2.2.1 (by omega) | exact fun z => absurd z.2.2.2.1 (by omega) | exact fun z => absurd z.2.2.2.2 (by omega))


