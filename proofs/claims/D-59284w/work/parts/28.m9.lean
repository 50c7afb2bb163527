/-! the model: ways to parcels, means -/
set_option maxRecDepth 100000
noncomputable def nsR (σ : St) (q x here len : Int) : Nat → Int → Int
  | 0, f => f
  | k + 1, f => nsR σ q x here len k (pif ((σ (1 + 4 * (k : Int)) = here ∧ canK σ q k) ∧ farF σ q (σ (1 + 4 * (k : Int) + 1)) x = len - 1) k f)

theorem lp_ns {Ω : Wd} {d r : Nat} {Q : Hp → Out → Prop} {b : Nat} {h0 : Hp} {σ : St} {q x here len : Int} (hI0 : MI σ) (hq : 0 ≤ q ∧ q < 4) (hx : 0 ≤ x ∧ x < 10) (hh : rg here) (hl : 1 ≤ len ∧ len ≤ 10) : ∀ (k : Nat) (i f : Int) (τ : St), eqF σ τ → i = (k : Int) - 1 → (k : Int) ≤ σ 0 → (∀ τ' : St, eqF σ τ' → Q (mh b h0 τ') (.inl (some (.int (zI (nsR σ q x here len k f)))))) → At Ω M_X9_nextStreet (d + 3) r Q 66 [some (.ref b), some (.int (zI q)), some (.int (zI x)), some (.int (zI here)), some (.int (zI len)), some (.int (zI f)), some (.int (zI i)), none] [] (mh b h0 τ) := by
  intro k
  induction k with
  | zero =>
    intro i f τ he hi hk hX
    refine R_iload dX9_nextStreet_66 rfl ?_
    refine Z_if_lt dX9_nextStreet_68 (by first | exact hI.1 _ | assumption | exact hI1.1 _ | exact hI2.1 _ | exact ⟨by omega, by omega⟩) (tgt := 155) (by decide) (fun c_68 => ?_) (fun c_68 => absurd c_68 (by omega))
    refine R_iload dX9_nextStreet_155 rfl ?_
    refine Z_retI dX9_nextStreet_157 (rf_i rfl) ?_
    exact hX τ he
  | succ k ih =>
    intro i f τ he hi hk hX
    obtain rfl : i = (k : Int) := by omega
    have hI := MI_eqF hI0 he
    have h0' := hI.2.1
    have e0 : τ 0 = σ 0 := he.1 _ (by omega)
    have e1 : τ (1 + 4 * (k : Int)) = σ (1 + 4 * (k : Int)) := he.1 _ (by omega)
    have e2 : τ (1 + 4 * (k : Int) + 1) = σ (1 + 4 * (k : Int) + 1) := he.1 _ (by omega)
    have e3 : τ (1 + 4 * (k : Int) + 2) = σ (1 + 4 * (k : Int) + 2) := he.1 _ (by omega)
    have e4 : τ (1 + 4 * (k : Int) + 3) = σ (1 + 4 * (k : Int) + 3) := he.1 _ (by omega)
    have e5 : τ (97 + 5 * q + 1) = σ (97 + 5 * q + 1) := he.1 _ (by omega)
    have h8 := hI.2.2.2.2.2.2.2.1 (k : Int) (by omega)
    have hfb := farF_bd hI q (τ (1 + 4 * (k : Int) + 1)) hx
    have he2 : eqF σ (sprF τ q (τ (1 + 4 * (k : Int) + 1))) := he.trans (eqF_spr hI _ _)
    have ef : farF τ q (τ (1 + 4 * (k : Int) + 1)) x = farF σ q (σ (1 + 4 * (k : Int) + 1)) x := by rw [farF_eqF he, e2]
    have hX2 : ∀ τ' : St, eqF σ τ' → Q (mh b h0 τ') (.inl (some (.int (zI (nsR σ q x here len k (pif ((σ (1 + 4 * (k : Int)) = here ∧ canK σ q k) ∧ farF σ q (σ (1 + 4 * (k : Int) + 1)) x = len - 1) k f)))))) := hX
    have hP : ∀ τ2, eqF σ τ2 → ((σ (1 + 4 * (k : Int)) = here ∧ canK σ q k) ∧ farF σ q (σ (1 + 4 * (k : Int) + 1)) x = len - 1) → At Ω M_X9_nextStreet (d + 3) r Q 66 [some (.ref b), some (.int (zI q)), some (.int (zI x)), some (.int (zI here)), some (.int (zI len)), some (.int (zI (k : Int))), some (.int (zI ((k : Int) + -1))), none] [] (mh b h0 τ2) := fun τ2 g z => ih _ _ _ g (by omega) (by omega) (by rw [pif_1 z] at hX2; exact hX2)
    have hN : ∀ τ2, eqF σ τ2 → ¬ ((σ (1 + 4 * (k : Int)) = here ∧ canK σ q k) ∧ farF σ q (σ (1 + 4 * (k : Int) + 1)) x = len - 1) → At Ω M_X9_nextStreet (d + 3) r Q 66 [some (.ref b), some (.int (zI q)), some (.int (zI x)), some (.int (zI here)), some (.int (zI len)), some (.int (zI f)), some (.int (zI ((k : Int) + -1))), none] [] (mh b h0 τ2) := fun τ2 g z => ih _ _ _ g (by omega) (by omega) (by rw [pif_0 z] at hX2; exact hX2)
    obtain ⟨τ3, hτ3⟩ : ∃ τ3, sprF τ q (τ (1 + 4 * (k : Int) + 1)) = τ3 := ⟨_, rfl⟩
    rw [hτ3] at he2
    refine R_iload dX9_nextStreet_66 rfl ?_
    refine Z_if_lt dX9_nextStreet_68 (by first | exact hI.1 _ | assumption | exact hI1.1 _ | exact hI2.1 _ | exact ⟨by omega, by omega⟩) (tgt := 155) (by decide) (fun c_68 => absurd c_68 (by omega)) (fun c_68 => ?_)
    refine z_joinB (σ (1 + 4 * (k : Int)) = here ∧ canK σ q k) 114 ?_ (fun jt_71 jf_71 => ?_)
    · skip
      refine R_istore dX9_nextStreet_114 (by decide) rfl rfl ?_
      refine R_iload dX9_nextStreet_116 rfl ?_
      refine Z_if_eqB dX9_nextStreet_118 (tgt := 145) (by decide) (fun c_118 => ?_) (fun c_118 => ?_)
      · skip
        refine R_iload dX9_nextStreet_145 rfl ?_
        refine R_istore dX9_nextStreet_147 (by decide) rfl rfl ?_
        refine Z_iinc dX9_nextStreet_149 rfl (by decide) rfl rfl ?_
        refine R_goto dX9_nextStreet_152 (tgt := 66) (by decide) ?_
        first | exact At.dropS [some (.ref b), some (.int (zI q)), some (.int (zI x)), some (.int (zI here)), some (.int (zI len)), some (.int (zI f)), some (.int (zI ((k : Int) + -1))), none] ⟨rfl, rfl, rfl, rfl, rfl, rfl, rfl, trivial⟩ (hN _ (by first | exact he | exact he2) (by first | exact fun z => c_118 z.1 | exact fun z => c_137 z.2)) | exact At.dropS [some (.ref b), some (.int (zI q)), some (.int (zI x)), some (.int (zI here)), some (.int (zI len)), some (.int (zI (k : Int))), some (.int (zI ((k : Int) + -1))), none] ⟨rfl, rfl, rfl, rfl, rfl, rfl, rfl, trivial⟩ (hP _ he2 ⟨c_118, c_137⟩)
      · skip
        refine R_aload_n dX9_nextStreet_121 rfl rfl rfl ?_
        refine R_iload_n dX9_nextStreet_122 rfl rfl ?_
        refine R_aload_n dX9_nextStreet_123 rfl rfl rfl ?_
        refine R_iload dX9_nextStreet_124 rfl ?_
        refine R_cV1 0 dX9_nextStreet_126 rfl cv_X9_91 mh_get0 rfl rfl (Nat.le_of_ble_eq_true rfl) (Nat.zero_le _) (sp_X9_to (by first | assumption | exact hI.1 _ | exact hI1.1 _ | exact hI2.1 _ | omega | (refine ⟨?_, ?_⟩ <;> omega)) (kq.v ?_))
        refine R_iload_n dX9_nextStreet_129 rfl rfl ?_
        refine R_cV3 0 dX9_nextStreet_130 rfl cv_X9_192 mh_get0 rfl rfl (Nat.le_of_ble_eq_true rfl) (Nat.zero_le _) (sp_X9_way (by first | assumption | exact hI.1 _ | exact hI1.1 _ | exact hI2.1 _ | omega | (refine ⟨?_, ?_⟩ <;> omega)) (by first | assumption | exact hI.1 _ | exact hI1.1 _ | exact hI2.1 _ | omega | (refine ⟨?_, ?_⟩ <;> omega)) (by first | assumption | exact hI.1 _ | exact hI1.1 _ | exact hI2.1 _ | omega | (refine ⟨?_, ?_⟩ <;> omega)) (by first | assumption | exact hI.1 _ | exact hI1.1 _ | exact hI2.1 _ | omega | (refine ⟨?_, ?_⟩ <;> omega)) (kq.v ?_))
        rw [hτ3, ef]
        refine R_iload dX9_nextStreet_133 rfl ?_
        refine R_iconst dX9_nextStreet_135 (v := zI (1)) rfl ?_
        refine Z_isub dX9_nextStreet_136 ?_
        refine Z_icmp_ne dX9_nextStreet_137 (by first | exact hI.1 _ | assumption | exact hI1.1 _ | exact hI2.1 _ | exact ⟨by omega, by omega⟩) (by first | exact hI.1 _ | assumption | exact hI1.1 _ | exact hI2.1 _ | exact ⟨by omega, by omega⟩) (tgt := 145) (by decide) (fun c_137 => ?_) (fun c_137 => ?_)
        · skip
          refine R_iload dX9_nextStreet_145 rfl ?_
          refine R_istore dX9_nextStreet_147 (by decide) rfl rfl ?_
          refine Z_iinc dX9_nextStreet_149 rfl (by decide) rfl rfl ?_
          refine R_goto dX9_nextStreet_152 (tgt := 66) (by decide) ?_
          first | exact At.dropS [some (.ref b), some (.int (zI q)), some (.int (zI x)), some (.int (zI here)), some (.int (zI len)), some (.int (zI f)), some (.int (zI ((k : Int) + -1))), none] ⟨rfl, rfl, rfl, rfl, rfl, rfl, rfl, trivial⟩ (hN _ (by first | exact he | exact he2) (by first | exact fun z => c_118 z.1 | exact fun z => c_137 z.2)) | exact At.dropS [some (.ref b), some (.int (zI q)), some (.int (zI x)), some (.int (zI here)), some (.int (zI len)), some (.int (zI (k : Int))), some (.int (zI ((k : Int) + -1))), none] ⟨rfl, rfl, rfl, rfl, rfl, rfl, rfl, trivial⟩ (hP _ he2 ⟨c_118, c_137⟩)
        · skip
          refine R_iload dX9_nextStreet_140 rfl ?_
          refine R_goto dX9_nextStreet_142 (tgt := 147) (by decide) ?_
          refine R_istore dX9_nextStreet_147 (by decide) rfl rfl ?_
          refine Z_iinc dX9_nextStreet_149 rfl (by decide) rfl rfl ?_
          refine R_goto dX9_nextStreet_152 (tgt := 66) (by decide) ?_
          first | exact At.dropS [some (.ref b), some (.int (zI q)), some (.int (zI x)), some (.int (zI here)), some (.int (zI len)), some (.int (zI f)), some (.int (zI ((k : Int) + -1))), none] ⟨rfl, rfl, rfl, rfl, rfl, rfl, rfl, trivial⟩ (hN _ (by first | exact he | exact he2) (by first | exact fun z => c_118 z.1 | exact fun z => c_137 z.2)) | exact At.dropS [some (.ref b), some (.int (zI q)), some (.int (zI x)), some (.int (zI here)), some (.int (zI len)), some (.int (zI (k : Int))), some (.int (zI ((k : Int) + -1))), none] ⟨rfl, rfl, rfl, rfl, rfl, rfl, rfl, trivial⟩ (hP _ he2 ⟨c_118, c_137⟩)
    · skip
      refine R_aload_n dX9_nextStreet_71 rfl rfl rfl ?_
      refine R_iload dX9_nextStreet_72 rfl ?_
      refine R_cV1 0 dX9_nextStreet_74 rfl cv_X9_77 mh_get0 rfl rfl (Nat.le_of_ble_eq_true rfl) (Nat.zero_le _) (sp_X9_from (by first | assumption | exact hI.1 _ | exact hI1.1 _ | exact hI2.1 _ | omega | (refine ⟨?_, ?_⟩ <;> omega)) (kq.v ?_))
      refine R_iload_n dX9_nextStreet_77 rfl rfl ?_
      refine Z_icmp_ne dX9_nextStreet_78 (by first | exact hI.1 _ | assumption | exact hI1.1 _ | exact hI2.1 _ | exact ⟨by omega, by omega⟩) (by first | exact hI.1 _ | assumption | exact hI1.1 _ | exact hI2.1 _ | exact ⟨by omega, by omega⟩) (tgt := 113) (by decide) (fun c_78 => ?_) (fun c_78 => ?_)
      · skip
        refine R_iconst dX9_nextStreet_113 (v := zI (0)) rfl ?_
        exact jf_71 (by first | assumption | omega | grind | (simp [*]; done) | (simp_all; done))
      · skip
        refine R_aload_n dX9_nextStreet_81 rfl rfl rfl ?_
        refine R_iload dX9_nextStreet_82 rfl ?_
        refine R_cV1 0 dX9_nextStreet_84 rfl cv_X9_80 mh_get0 rfl rfl (Nat.le_of_ble_eq_true rfl) (Nat.zero_le _) (sp_X9_isFree (by first | assumption | exact hI.1 _ | exact hI1.1 _ | exact hI2.1 _ | omega | (refine ⟨?_, ?_⟩ <;> omega)) (by first | assumption | exact hI.1 _ | exact hI1.1 _ | exact hI2.1 _ | omega | (refine ⟨?_, ?_⟩ <;> omega)) (kq.v ?_))
        refine Z_if_eqB dX9_nextStreet_87 (tgt := 113) (by decide) (fun c_87 => ?_) (fun c_87 => ?_)
        · skip
          refine R_iconst dX9_nextStreet_113 (v := zI (0)) rfl ?_
          exact jf_71 (by first | assumption | omega | grind | (simp [*]; done) | (simp_all; done))
        · skip
          refine R_aload_n dX9_nextStreet_90 rfl rfl rfl ?_
          refine R_iload dX9_nextStreet_91 rfl ?_
          refine R_cV1 0 dX9_nextStreet_93 rfl cv_X9_84 mh_get0 rfl rfl (Nat.le_of_ble_eq_true rfl) (Nat.zero_le _) (sp_X9_isNarrow (by first | assumption | exact hI.1 _ | exact hI1.1 _ | exact hI2.1 _ | omega | (refine ⟨?_, ?_⟩ <;> omega)) (by first | assumption | exact hI.1 _ | exact hI1.1 _ | exact hI2.1 _ | omega | (refine ⟨?_, ?_⟩ <;> omega)) (kq.v ?_))
          refine Z_if_eqB dX9_nextStreet_96 (tgt := 109) (by decide) (fun c_96 => ?_) (fun c_96 => ?_)
          · skip
            refine R_iconst dX9_nextStreet_109 (v := zI (1)) rfl ?_
            refine R_goto dX9_nextStreet_110 (tgt := 114) (by decide) ?_
            exact jt_71 (by first | assumption | omega | grind | (simp [*]; done) | (simp_all; done))
          · skip
            refine R_aload_n dX9_nextStreet_99 rfl rfl rfl ?_
            refine R_iload_n dX9_nextStreet_100 rfl rfl ?_
            refine R_iconst dX9_nextStreet_101 (v := zI (1)) rfl ?_
            refine R_cV2 0 dX9_nextStreet_102 rfl cv_X9_53 mh_get0 rfl rfl (Nat.le_of_ble_eq_true rfl) (Nat.zero_le _) (sp_X9_of (by first | assumption | exact hI.1 _ | exact hI1.1 _ | exact hI2.1 _ | omega | (refine ⟨?_, ?_⟩ <;> omega)) (kq.v ?_))
            refine R_iconst dX9_nextStreet_105 (v := zI (1)) rfl ?_
            refine Z_icmp_eq dX9_nextStreet_106 (by first | exact hI.1 _ | assumption | exact hI1.1 _ | exact hI2.1 _ | exact ⟨by omega, by omega⟩) (by first | exact hI.1 _ | assumption | exact hI1.1 _ | exact hI2.1 _ | exact ⟨by omega, by omega⟩) (tgt := 113) (by decide) (fun c_106 => ?_) (fun c_106 => ?_)
            · skip
              refine R_iconst dX9_nextStreet_113 (v := zI (0)) rfl ?_
              exact jf_71 (by first | assumption | omega | grind | (simp [*]; done) | (simp_all; done))
            · skip
              refine R_iconst dX9_nextStreet_109 (v := zI (1)) rfl ?_
              refine R_goto dX9_nextStreet_110 (tgt := 114) (by decide) ?_
              exact jt_71 (by first | assumption | omega | grind | (simp [*]; done) | (simp_all; done))

noncomputable def nextF (σ : St) (q x : Int) : Int := nsR σ q x (σ (97 + 5 * q + 0)) (farF σ q (σ (97 + 5 * q + 0)) x) (σ 0).toNat (-1)

theorem sp_X9_nextStreet {Ω : Wd} {d r : Nat} {Q : Hp → Out → Prop} {b : Nat} {h0 : Hp} {σ : St} {q x : Int} {τ : St} (hτ : us σ 703 0 = τ) (hI : MI τ) (hq : rg q) (hx : rg x) (h1 : ¬ ((0 ≤ q ∧ q ≤ 3) ∧ (0 ≤ x ∧ x ≤ 9)) → Q (mh b h0 (us τ 703 1)) (.inl (some (.int (zI 0))))) (h2 : ((0 ≤ q ∧ q ≤ 3) ∧ (0 ≤ x ∧ x ≤ 9)) → farF τ q (τ (97 + 5 * q + 0)) x < 1 → Q (mh b h0 (us (sprF τ q (τ (97 + 5 * q + 0))) 703 2)) (.inl (some (.int (zI 0))))) (h3 : ((0 ≤ q ∧ q ≤ 3) ∧ (0 ≤ x ∧ x ≤ 9)) → 1 ≤ farF τ q (τ (97 + 5 * q + 0)) x → ∀ τ', eqF τ τ' → Q (mh b h0 τ') (.inl (some (.int (zI (nextF τ q x)))))) : Ok Ω M_X9_nextStreet (d + 3) r [.ref b, .int (zI q), .int (zI x)] (mh b h0 (σ)) Q := by
  refine Ok.of (by decide) rfl (Nat.le_of_ble_eq_true rfl) rfl ?_
  refine R_aload_n dX9_nextStreet_0 rfl rfl rfl ?_
  refine R_iconst dX9_nextStreet_1 (v := zI (0)) rfl ?_
  refine Zm_pf7 dX9_nextStreet_2 pf_X9_38 ?_
  rw [hτ]
  refine R_iload_n dX9_nextStreet_5 rfl rfl ?_
  refine R_cS1 0 dX9_nextStreet_6 rfl cs_X9_134 (Nat.le_of_ble_eq_true rfl) (Nat.zero_le _) (sp_X9_isCourier (by first | assumption | exact hI.1 _ | exact hI1.1 _ | exact hI2.1 _ | omega | (refine ⟨?_, ?_⟩ <;> omega)) (kq.v ?_))
  refine Z_if_eqB dX9_nextStreet_9 (tgt := 19) (by decide) (fun c_9 => ?_) (fun c_9 => ?_)
  · skip
    refine R_aload_n dX9_nextStreet_19 rfl rfl rfl ?_
    refine R_iconst dX9_nextStreet_20 (v := zI (1)) rfl ?_
    refine R_cV1 0 dX9_nextStreet_21 rfl cv_X9_122 mh_get0 rfl rfl (Nat.le_of_ble_eq_true rfl) (Nat.zero_le _) (sp_X9_throwing  (kq.v ?_))
    refine Z_retI dX9_nextStreet_24 (rf_i rfl) ?_
    exact h1 (by omega)
  · skip
    refine R_iload_n dX9_nextStreet_12 rfl rfl ?_
    refine R_cS1 0 dX9_nextStreet_13 rfl cs_X9_119 (Nat.le_of_ble_eq_true rfl) (Nat.zero_le _) (sp_X9_isJunction (by first | assumption | exact hI.1 _ | exact hI1.1 _ | exact hI2.1 _ | omega | (refine ⟨?_, ?_⟩ <;> omega)) (kq.v ?_))
    refine Z_if_neB dX9_nextStreet_16 (tgt := 25) (by decide) (fun c_16 => ?_) (fun c_16 => ?_)
    · skip
      have h7 := hI.2.2.2.2.2.2.1 q (by omega)
      have hfb := farF_bd hI q (τ (97 + 5 * q + 0)) (x := x) (by omega)
      have h00 := hI.2.1
      have e0 : sprF τ q (τ (97 + 5 * q + 0)) 0 = τ 0 := (eqF_spr hI _ _).1 _ (by omega)
      refine R_aload_n dX9_nextStreet_25 rfl rfl rfl ?_
      refine R_iload_n dX9_nextStreet_26 rfl rfl ?_
      refine R_iconst dX9_nextStreet_27 (v := zI (0)) rfl ?_
      refine R_cV2 0 dX9_nextStreet_28 rfl cv_X9_53 mh_get0 rfl rfl (Nat.le_of_ble_eq_true rfl) (Nat.zero_le _) (sp_X9_of (by first | assumption | exact hI.1 _ | exact hI1.1 _ | exact hI2.1 _ | omega | (refine ⟨?_, ?_⟩ <;> omega)) (kq.v ?_))
      refine R_istore_n dX9_nextStreet_31 rfl (by decide) rfl rfl ?_
      refine R_aload_n dX9_nextStreet_32 rfl rfl rfl ?_
      refine R_iload_n dX9_nextStreet_33 rfl rfl ?_
      refine R_iload_n dX9_nextStreet_34 rfl rfl ?_
      refine R_iload_n dX9_nextStreet_35 rfl rfl ?_
      refine R_cV3 0 dX9_nextStreet_36 rfl cv_X9_192 mh_get0 rfl rfl (Nat.le_of_ble_eq_true rfl) (Nat.zero_le _) (sp_X9_way (by first | assumption | exact hI.1 _ | exact hI1.1 _ | exact hI2.1 _ | omega | (refine ⟨?_, ?_⟩ <;> omega)) (by first | assumption | exact hI.1 _ | exact hI1.1 _ | exact hI2.1 _ | omega | (refine ⟨?_, ?_⟩ <;> omega)) (by first | assumption | exact hI.1 _ | exact hI1.1 _ | exact hI2.1 _ | omega | (refine ⟨?_, ?_⟩ <;> omega)) (by first | assumption | exact hI.1 _ | exact hI1.1 _ | exact hI2.1 _ | omega | (refine ⟨?_, ?_⟩ <;> omega)) (kq.v ?_))
      refine R_istore dX9_nextStreet_39 (by decide) rfl rfl ?_
      refine R_iload dX9_nextStreet_41 rfl ?_
      refine R_iconst dX9_nextStreet_43 (v := zI (1)) rfl ?_
      refine Z_icmp_ge dX9_nextStreet_44 (by first | exact hI.1 _ | assumption | exact hI1.1 _ | exact hI2.1 _ | exact ⟨by omega, by omega⟩) (by first | exact hI.1 _ | assumption | exact hI1.1 _ | exact hI2.1 _ | exact ⟨by omega, by omega⟩) (tgt := 53) (by decide) (fun c_44 => ?_) (fun c_44 => ?_)
      · skip
        refine R_iconst dX9_nextStreet_53 (v := zI (-1)) rfl ?_
        refine R_istore dX9_nextStreet_54 (by decide) rfl rfl ?_
        refine R_aload_n dX9_nextStreet_56 rfl rfl rfl ?_
        refine Zm_gf dX9_nextStreet_57 gf_X9_7 rfl ?_
        refine R_iconst dX9_nextStreet_60 (v := zI (0)) rfl ?_
        refine Zm_ld1 dX9_nextStreet_61 (by omega) ?_
        refine R_iconst dX9_nextStreet_62 (v := zI (1)) rfl ?_
        refine Z_isub dX9_nextStreet_63 ?_
        refine R_istore dX9_nextStreet_64 (by decide) rfl rfl ?_
        exact At.dropS [some (.ref b), some (.int (zI q)), some (.int (zI x)), some (.int (zI (τ (97 + 5 * q + 0)))), some (.int (zI (farF τ q (τ (97 + 5 * q + 0)) x))), some (.int (zI (-1))), some (.int (zI (sprF τ q (τ (97 + 5 * q + 0)) 0 - 1))), none] ⟨rfl, rfl, rfl, rfl, rfl, rfl, rfl, trivial⟩ (lp_ns hI (by omega) (by omega) (hI.1 _) (by omega) (τ 0).toNat _ _ _ (eqF_spr hI _ _) (by rw [e0]; omega) (by omega) (h3 (by omega) (by omega)))
      · skip
        refine R_aload_n dX9_nextStreet_47 rfl rfl rfl ?_
        refine R_iconst dX9_nextStreet_48 (v := zI (2)) rfl ?_
        refine R_cV1 0 dX9_nextStreet_49 rfl cv_X9_122 mh_get0 rfl rfl (Nat.le_of_ble_eq_true rfl) (Nat.zero_le _) (sp_X9_throwing  (kq.v ?_))
        refine Z_retI dX9_nextStreet_52 (rf_i rfl) ?_
        exact h2 (by omega) (by omega)
    · skip
      refine R_aload_n dX9_nextStreet_19 rfl rfl rfl ?_
      refine R_iconst dX9_nextStreet_20 (v := zI (1)) rfl ?_
      refine R_cV1 0 dX9_nextStreet_21 rfl cv_X9_122 mh_get0 rfl rfl (Nat.le_of_ble_eq_true rfl) (Nat.zero_le _) (sp_X9_throwing  (kq.v ?_))
      refine Z_retI dX9_nextStreet_24 (rf_i rfl) ?_
      exact h1 (by omega)

/-- the parcel's ways -/
noncomputable abbrev oneF (σ : St) (q n : Int) : Int := farF σ q (σ (97 + 5 * q + 0)) (σ (118 + 6 * n + 0))
noncomputable abbrev twoF (σ : St) (q n : Int) : Int := farF σ q (σ (118 + 6 * n + 0)) (σ (118 + 6 * n + 1))
abbrev suitP (σ : St) (q n : Int) : Prop := σ (118 + 6 * n + 4) = 0 ∧ ¬ oneF σ q n = -1 ∧ ¬ twoF σ q n = -1 ∧ σ (118 + 6 * n + 2) ≤ carF σ q
noncomputable def bpR (σ : St) (q : Int) : Nat → Int → Int → Int → Int
  | 0, _, f, _ => f
  | k + 1, n, f, g => pif (suitP σ q n ∧ (f = -1 ∨ oneF σ q n + twoF σ q n < g ∨ (oneF σ q n + twoF σ q n = g ∧ σ (118 + 6 * f + 3) < σ (118 + 6 * n + 3)))) (bpR σ q k (n + 1) n (oneF σ q n + twoF σ q n)) (bpR σ q k (n + 1) f g)

theorem lp_bp {Ω : Wd} {d r : Nat} {Q : Hp → Out → Prop} {b : Nat} {h0 : Hp} {σ : St} {q : Int} (hI0 : MI σ) (hq : 0 ≤ q ∧ q < 4) (hcap : 1 ≤ σ 166 ∧ σ 166 ≤ 9) : ∀ (k : Nat) (n f g : Int) (τ : St), eqF σ τ → n + k = σ 117 → 0 ≤ n → (-1 ≤ f ∧ f < n) → (0 ≤ g ∧ g ≤ 20) → (∀ τ' : St, eqF σ τ' → ¬ bpR σ q k n f g = -1 → Q (mh b h0 τ') (.inl (some (.int (zI (bpR σ q k n f g)))))) → (∀ τ' : St, eqF σ τ' → bpR σ q k n f g = -1 → Q (mh b h0 (us τ' 703 2)) (.inl (some (.int (zI 0))))) → At Ω M_X9_bestParcel (d + 3) r Q 25 [some (.ref b), some (.int (zI q)), some (.int (zI f)), some (.int (zI g)), some (.int (zI n)), none, none, none, none] [] (mh b h0 τ) := by
  intro k
  induction k with
  | zero =>
    intro n f g τ he hn hn0 hf hg hX hY
    have hI := MI_eqF hI0 he
    have e117 : τ 117 = σ 117 := he.1 _ (by omega)
    have h117 := hI.2.2.1
    refine R_iload dX9_bestParcel_25 rfl ?_
    refine R_aload_n dX9_bestParcel_27 rfl rfl rfl ?_
    refine Zm_gf dX9_bestParcel_28 gf_X9_7 rfl ?_
    refine R_bipush dX9_bestParcel_31 (v := zI (117)) rfl ?_
    refine Zm_ld1 dX9_bestParcel_33 (by omega) ?_
    refine Z_icmp_ge dX9_bestParcel_34 (by first | exact hI.1 _ | assumption | exact hI1.1 _ | exact hI2.1 _ | exact ⟨by omega, by omega⟩) (by first | exact hI.1 _ | assumption | exact hI1.1 _ | exact hI2.1 _ | exact ⟨by omega, by omega⟩) (tgt := 179) (by decide) (fun c_34 => ?_) (fun c_34 => absurd c_34 (by omega))
    refine R_iload_n dX9_bestParcel_179 rfl rfl ?_
    refine R_iconst dX9_bestParcel_180 (v := zI (-1)) rfl ?_
    refine Z_icmp_ne dX9_bestParcel_181 (by first | exact hI.1 _ | assumption | exact hI1.1 _ | exact hI2.1 _ | exact ⟨by omega, by omega⟩) (by first | exact hI.1 _ | assumption | exact hI1.1 _ | exact hI2.1 _ | exact ⟨by omega, by omega⟩) (tgt := 192) (by decide) (fun c_181 => ?_) (fun c_181 => ?_)
    · skip
      refine R_iload_n dX9_bestParcel_192 rfl rfl ?_
      refine Z_retI dX9_bestParcel_193 (rf_i rfl) ?_
      first | exact hX τ he c_181 | exact hY τ he c_181
    · skip
      refine R_aload_n dX9_bestParcel_184 rfl rfl rfl ?_
      refine R_iconst dX9_bestParcel_185 (v := zI (2)) rfl ?_
      refine R_cV1 0 dX9_bestParcel_186 rfl cv_X9_122 mh_get0 rfl rfl (Nat.le_of_ble_eq_true rfl) (Nat.zero_le _) (sp_X9_throwing  (kq.v ?_))
      refine R_goto dX9_bestParcel_189 (tgt := 193) (by decide) ?_
      refine Z_retI dX9_bestParcel_193 (rf_i rfl) ?_
      first | exact hX τ he c_181 | exact hY τ he c_181
  | succ k ih =>
    intro n f g τ he hn hn0 hf hg hX hY
    have hI := MI_eqF hI0 he
    have h117 := hI.2.2.1
    have e117 : τ 117 = σ 117 := he.1 _ (by omega)
    have h7 := hI.2.2.2.2.2.2.1 q hq
    have hp := hI.2.2.2.2.2.2.2.2 n (by omega)
    have hv : 0 ≤ f → 1 ≤ τ (118 + 6 * f + 3) ∧ τ (118 + 6 * f + 3) ≤ 9 := fun z => (hI.2.2.2.2.2.2.2.2 f (by omega)).2.2.2.1
    have hb1 := farF_bd hI q (τ (97 + 5 * q + 0)) (x := τ (118 + 6 * n + 0)) (by omega)
    have hb2 := farF_bd hI q (τ (118 + 6 * n + 0)) (x := τ (118 + 6 * n + 1)) (by omega)
    have ec : carF τ q = carF σ q := by unfold carF; rw [he.1 _ (by omega), he.1 166 (by omega)]
    have hcb := carF_bd (c := q) (by rw [he.1 166 (by omega)]; exact hcap : 1 ≤ τ 166 ∧ τ 166 ≤ 9)
    have eo : farF τ q (τ (97 + 5 * q + 0)) (τ (118 + 6 * n + 0)) = oneF σ q n := by unfold oneF; rw [farF_eqF he, he.1 _ (by omega), he.1 _ (by omega)]
    obtain ⟨τ1, hτ1⟩ : ∃ τ1, sprF τ q (τ (97 + 5 * q + 0)) = τ1 := ⟨_, rfl⟩
    have he1 : eqF τ τ1 := hτ1 ▸ eqF_spr hI _ _
    have hI1 := MI_eqF hI he1
    obtain ⟨τ2, hτ2⟩ : ∃ τ2, sprF τ1 q (τ1 (118 + 6 * n + 0)) = τ2 := ⟨_, rfl⟩
    have he2 : eqF τ1 τ2 := hτ2 ▸ eqF_spr hI1 _ _
    have hI2 := MI_eqF hI1 he2
    have he3 : eqF τ τ2 := he1.trans he2
    have a0 : τ1 (118 + 6 * n + 0) = τ (118 + 6 * n + 0) := he1.1 _ (by omega)
    have a1 : τ1 (118 + 6 * n + 1) = τ (118 + 6 * n + 1) := he1.1 _ (by omega)
    have b2 : τ2 (118 + 6 * n + 2) = τ (118 + 6 * n + 2) := he3.1 _ (by omega)
    have b3 : τ2 (118 + 6 * n + 3) = τ (118 + 6 * n + 3) := he3.1 _ (by omega)
    have b4 : τ2 (118 + 6 * n + 4) = τ (118 + 6 * n + 4) := he3.1 _ (by omega)
    have bf : 0 ≤ f → τ2 (118 + 6 * f + 3) = τ (118 + 6 * f + 3) := fun z => he3.1 _ (by omega)
    have ec2 : carF τ2 q = carF τ q := by unfold carF; rw [he3.1 _ (by omega), he3.1 166 (by omega)]
    have s2 : τ (118 + 6 * n + 2) = σ (118 + 6 * n + 2) := he.1 _ (by omega)
    have s3 : τ (118 + 6 * n + 3) = σ (118 + 6 * n + 3) := he.1 _ (by omega)
    have s4 : τ (118 + 6 * n + 4) = σ (118 + 6 * n + 4) := he.1 _ (by omega)
    have sf : 0 ≤ f → τ (118 + 6 * f + 3) = σ (118 + 6 * f + 3) := fun z => he.1 _ (by omega)
    have ew2 : farF τ1 q (τ1 (118 + 6 * n + 0)) (τ1 (118 + 6 * n + 1)) = twoF σ q n := by unfold twoF; rw [farF_eqF he1, farF_eqF he, a0, a1, he.1 _ (by omega), he.1 _ (by omega)]
    have q1 : -1 ≤ oneF σ q n ∧ oneF σ q n ≤ 10 := by rw [← eo]; exact hb1
    have q2 : -1 ≤ twoF σ q n ∧ twoF σ q n ≤ 10 := by rw [← ew2]; rw [a0, a1, farF_eqF he1]; exact hb2
    have hX2 : ∀ τ' : St, eqF σ τ' → ¬ pif (suitP σ q n ∧ (f = -1 ∨ oneF σ q n + twoF σ q n < g ∨ (oneF σ q n + twoF σ q n = g ∧ σ (118 + 6 * f + 3) < σ (118 + 6 * n + 3)))) (bpR σ q k (n + 1) n (oneF σ q n + twoF σ q n)) (bpR σ q k (n + 1) f g) = -1 → Q (mh b h0 τ') (.inl (some (.int (zI (pif (suitP σ q n ∧ (f = -1 ∨ oneF σ q n + twoF σ q n < g ∨ (oneF σ q n + twoF σ q n = g ∧ σ (118 + 6 * f + 3) < σ (118 + 6 * n + 3)))) (bpR σ q k (n + 1) n (oneF σ q n + twoF σ q n)) (bpR σ q k (n + 1) f g)))))) := hX
    have hY2 : ∀ τ' : St, eqF σ τ' → pif (suitP σ q n ∧ (f = -1 ∨ oneF σ q n + twoF σ q n < g ∨ (oneF σ q n + twoF σ q n = g ∧ σ (118 + 6 * f + 3) < σ (118 + 6 * n + 3)))) (bpR σ q k (n + 1) n (oneF σ q n + twoF σ q n)) (bpR σ q k (n + 1) f g) = -1 → Q (mh b h0 (us τ' 703 2)) (.inl (some (.int (zI 0)))) := hY
    have hN : ¬ (suitP σ q n ∧ (f = -1 ∨ oneF σ q n + twoF σ q n < g ∨ (oneF σ q n + twoF σ q n = g ∧ σ (118 + 6 * f + 3) < σ (118 + 6 * n + 3)))) → At Ω M_X9_bestParcel (d + 3) r Q 25 [some (.ref b), some (.int (zI q)), some (.int (zI f)), some (.int (zI g)), some (.int (zI (n + 1))), none, none, none, none] [] (mh b h0 τ2) := fun z => ih _ _ _ _ (he.trans he3) (by omega) (by omega) (by omega) hg (by rw [pif_0 z] at hX2; exact hX2) (by rw [pif_0 z] at hY2; exact hY2)
    have hP : (suitP σ q n ∧ (f = -1 ∨ oneF σ q n + twoF σ q n < g ∨ (oneF σ q n + twoF σ q n = g ∧ σ (118 + 6 * f + 3) < σ (118 + 6 * n + 3)))) → At Ω M_X9_bestParcel (d + 3) r Q 25 [some (.ref b), some (.int (zI q)), some (.int (zI n)), some (.int (zI (oneF σ q n + twoF σ q n))), some (.int (zI (n + 1))), none, none, none, none] [] (mh b h0 τ2) := fun z => ih _ _ _ _ (he.trans he3) (by omega) (by omega) (by omega) (by obtain ⟨⟨-, z1, z2, -⟩, -⟩ := z; omega) (by rw [pif_1 z] at hX2; exact hX2) (by rw [pif_1 z] at hY2; exact hY2)
    refine R_iload dX9_bestParcel_25 rfl ?_
    refine R_aload_n dX9_bestParcel_27 rfl rfl rfl ?_
    refine Zm_gf dX9_bestParcel_28 gf_X9_7 rfl ?_
    refine R_bipush dX9_bestParcel_31 (v := zI (117)) rfl ?_
    refine Zm_ld1 dX9_bestParcel_33 (by omega) ?_
    refine Z_icmp_ge dX9_bestParcel_34 (by first | exact hI.1 _ | assumption | exact hI1.1 _ | exact hI2.1 _ | exact ⟨by omega, by omega⟩) (by first | exact hI.1 _ | assumption | exact hI1.1 _ | exact hI2.1 _ | exact ⟨by omega, by omega⟩) (tgt := 179) (by decide) (fun c_34 => absurd c_34 (by omega)) (fun c_34 => ?_)
    refine R_aload_n dX9_bestParcel_37 rfl rfl rfl ?_
    refine R_iload_n dX9_bestParcel_38 rfl rfl ?_
    refine R_aload_n dX9_bestParcel_39 rfl rfl rfl ?_
    refine R_iload_n dX9_bestParcel_40 rfl rfl ?_
    refine R_iconst dX9_bestParcel_41 (v := zI (0)) rfl ?_
    refine R_cV2 0 dX9_bestParcel_42 rfl cv_X9_53 mh_get0 rfl rfl (Nat.le_of_ble_eq_true rfl) (Nat.zero_le _) (sp_X9_of (by first | assumption | exact hI.1 _ | exact hI1.1 _ | exact hI2.1 _ | omega | (refine ⟨?_, ?_⟩ <;> omega)) (kq.v ?_))
    refine R_aload_n dX9_bestParcel_45 rfl rfl rfl ?_
    refine R_iload dX9_bestParcel_46 rfl ?_
    refine R_iconst dX9_bestParcel_48 (v := zI (0)) rfl ?_
    refine R_cV2 0 dX9_bestParcel_49 rfl cv_X9_49 mh_get0 rfl rfl (Nat.le_of_ble_eq_true rfl) (Nat.zero_le _) (sp_X9_has (by first | assumption | exact hI.1 _ | exact hI1.1 _ | exact hI2.1 _ | omega | (refine ⟨?_, ?_⟩ <;> omega)) (kq.v ?_))
    refine R_cV3 0 dX9_bestParcel_52 rfl cv_X9_192 mh_get0 rfl rfl (Nat.le_of_ble_eq_true rfl) (Nat.zero_le _) (sp_X9_way (by first | assumption | exact hI.1 _ | exact hI1.1 _ | exact hI2.1 _ | omega | (refine ⟨?_, ?_⟩ <;> omega)) (by first | assumption | exact hI.1 _ | exact hI1.1 _ | exact hI2.1 _ | omega | (refine ⟨?_, ?_⟩ <;> omega)) (by first | assumption | exact hI.1 _ | exact hI1.1 _ | exact hI2.1 _ | omega | (refine ⟨?_, ?_⟩ <;> omega)) (by first | assumption | exact hI.1 _ | exact hI1.1 _ | exact hI2.1 _ | omega | (refine ⟨?_, ?_⟩ <;> omega)) (kq.v ?_))
    refine R_istore dX9_bestParcel_55 (by decide) rfl rfl ?_
    rw [hτ1, eo]
    refine R_aload_n dX9_bestParcel_57 rfl rfl rfl ?_
    refine R_iload_n dX9_bestParcel_58 rfl rfl ?_
    refine R_aload_n dX9_bestParcel_59 rfl rfl rfl ?_
    refine R_iload dX9_bestParcel_60 rfl ?_
    refine R_iconst dX9_bestParcel_62 (v := zI (0)) rfl ?_
    refine R_cV2 0 dX9_bestParcel_63 rfl cv_X9_49 mh_get0 rfl rfl (Nat.le_of_ble_eq_true rfl) (Nat.zero_le _) (sp_X9_has (by first | assumption | exact hI.1 _ | exact hI1.1 _ | exact hI2.1 _ | omega | (refine ⟨?_, ?_⟩ <;> omega)) (kq.v ?_))
    refine R_aload_n dX9_bestParcel_66 rfl rfl rfl ?_
    refine R_iload dX9_bestParcel_67 rfl ?_
    refine R_iconst dX9_bestParcel_69 (v := zI (1)) rfl ?_
    refine R_cV2 0 dX9_bestParcel_70 rfl cv_X9_49 mh_get0 rfl rfl (Nat.le_of_ble_eq_true rfl) (Nat.zero_le _) (sp_X9_has (by first | assumption | exact hI.1 _ | exact hI1.1 _ | exact hI2.1 _ | omega | (refine ⟨?_, ?_⟩ <;> omega)) (kq.v ?_))
    refine R_cV3 0 dX9_bestParcel_73 rfl cv_X9_192 mh_get0 rfl rfl (Nat.le_of_ble_eq_true rfl) (Nat.zero_le _) (sp_X9_way hI1 hq (by rw [a0]; omega) (by rw [a1]; omega) (kq.v ?_))
    refine R_istore dX9_bestParcel_76 (by decide) rfl rfl ?_
    rw [hτ2, ew2]
    refine z_joinB (suitP σ q n) 120 ?_ (fun jt_78 jf_78 => ?_)
    · skip
      refine R_istore dX9_bestParcel_120 (by decide) rfl rfl ?_
      refine R_iload dX9_bestParcel_122 rfl ?_
      refine R_iload dX9_bestParcel_124 rfl ?_
      refine Z_iadd dX9_bestParcel_126 ?_
      refine R_istore dX9_bestParcel_127 (by decide) rfl rfl ?_
      refine R_iload dX9_bestParcel_129 rfl ?_
      refine Z_if_eqB dX9_bestParcel_131 (tgt := 173) (by decide) (fun c_131 => ?_) (fun c_131 => ?_)
      · skip
        refine Z_iinc dX9_bestParcel_173 rfl (by decide) rfl rfl ?_
        refine R_goto dX9_bestParcel_176 (tgt := 25) (by decide) ?_
        first | exact At.dropS [some (.ref b), some (.int (zI q)), some (.int (zI f)), some (.int (zI g)), some (.int (zI (n + 1))), none, none, none, none] ⟨rfl, rfl, rfl, rfl, rfl, trivial⟩ (hN (by first | exact fun z => c_131 z.1 | (intro z; obtain ⟨-, z | z | z⟩ := z <;> omega))) | exact At.dropS [some (.ref b), some (.int (zI q)), some (.int (zI n)), some (.int (zI (oneF σ q n + twoF σ q n))), some (.int (zI (n + 1))), none, none, none, none] ⟨rfl, rfl, rfl, rfl, rfl, trivial⟩ (hP ⟨c_131, by omega⟩)
      · skip
        refine R_iload_n dX9_bestParcel_134 rfl rfl ?_
        refine R_iconst dX9_bestParcel_135 (v := zI (-1)) rfl ?_
        refine Z_icmp_eq dX9_bestParcel_136 (by first | exact hI.1 _ | assumption | exact hI1.1 _ | exact hI2.1 _ | exact ⟨by omega, by omega⟩) (by first | exact hI.1 _ | assumption | exact hI1.1 _ | exact hI2.1 _ | exact ⟨by omega, by omega⟩) (tgt := 167) (by decide) (fun c_136 => ?_) (fun c_136 => ?_)
        · skip
          refine R_iload dX9_bestParcel_167 rfl ?_
          refine R_istore_n dX9_bestParcel_169 rfl (by decide) rfl rfl ?_
          refine R_iload dX9_bestParcel_170 rfl ?_
          refine R_istore_n dX9_bestParcel_172 rfl (by decide) rfl rfl ?_
          refine Z_iinc dX9_bestParcel_173 rfl (by decide) rfl rfl ?_
          refine R_goto dX9_bestParcel_176 (tgt := 25) (by decide) ?_
          first | exact At.dropS [some (.ref b), some (.int (zI q)), some (.int (zI f)), some (.int (zI g)), some (.int (zI (n + 1))), none, none, none, none] ⟨rfl, rfl, rfl, rfl, rfl, trivial⟩ (hN (by first | exact fun z => c_131 z.1 | (intro z; obtain ⟨-, z | z | z⟩ := z <;> omega))) | exact At.dropS [some (.ref b), some (.int (zI q)), some (.int (zI n)), some (.int (zI (oneF σ q n + twoF σ q n))), some (.int (zI (n + 1))), none, none, none, none] ⟨rfl, rfl, rfl, rfl, rfl, trivial⟩ (hP ⟨c_131, by omega⟩)
        · skip
          refine R_iload dX9_bestParcel_139 rfl ?_
          refine R_iload_n dX9_bestParcel_141 rfl rfl ?_
          refine Z_icmp_lt dX9_bestParcel_142 (by first | exact hI.1 _ | assumption | exact hI1.1 _ | exact hI2.1 _ | exact ⟨by omega, by omega⟩) (by first | exact hI.1 _ | assumption | exact hI1.1 _ | exact hI2.1 _ | exact ⟨by omega, by omega⟩) (tgt := 167) (by decide) (fun c_142 => ?_) (fun c_142 => ?_)
          · skip
            refine R_iload dX9_bestParcel_167 rfl ?_
            refine R_istore_n dX9_bestParcel_169 rfl (by decide) rfl rfl ?_
            refine R_iload dX9_bestParcel_170 rfl ?_
            refine R_istore_n dX9_bestParcel_172 rfl (by decide) rfl rfl ?_
            refine Z_iinc dX9_bestParcel_173 rfl (by decide) rfl rfl ?_
            refine R_goto dX9_bestParcel_176 (tgt := 25) (by decide) ?_
            first | exact At.dropS [some (.ref b), some (.int (zI q)), some (.int (zI f)), some (.int (zI g)), some (.int (zI (n + 1))), none, none, none, none] ⟨rfl, rfl, rfl, rfl, rfl, trivial⟩ (hN (by first | exact fun z => c_131 z.1 | (intro z; obtain ⟨-, z | z | z⟩ := z <;> omega))) | exact At.dropS [some (.ref b), some (.int (zI q)), some (.int (zI n)), some (.int (zI (oneF σ q n + twoF σ q n))), some (.int (zI (n + 1))), none, none, none, none] ⟨rfl, rfl, rfl, rfl, rfl, trivial⟩ (hP ⟨c_131, by omega⟩)
          · skip
            refine R_iload dX9_bestParcel_145 rfl ?_
            refine R_iload_n dX9_bestParcel_147 rfl rfl ?_
            refine Z_icmp_ne dX9_bestParcel_148 (by first | exact hI.1 _ | assumption | exact hI1.1 _ | exact hI2.1 _ | exact ⟨by omega, by omega⟩) (by first | exact hI.1 _ | assumption | exact hI1.1 _ | exact hI2.1 _ | exact ⟨by omega, by omega⟩) (tgt := 173) (by decide) (fun c_148 => ?_) (fun c_148 => ?_)
            · skip
              refine Z_iinc dX9_bestParcel_173 rfl (by decide) rfl rfl ?_
              refine R_goto dX9_bestParcel_176 (tgt := 25) (by decide) ?_
              first | exact At.dropS [some (.ref b), some (.int (zI q)), some (.int (zI f)), some (.int (zI g)), some (.int (zI (n + 1))), none, none, none, none] ⟨rfl, rfl, rfl, rfl, rfl, trivial⟩ (hN (by first | exact fun z => c_131 z.1 | (intro z; obtain ⟨-, z | z | z⟩ := z <;> omega))) | exact At.dropS [some (.ref b), some (.int (zI q)), some (.int (zI n)), some (.int (zI (oneF σ q n + twoF σ q n))), some (.int (zI (n + 1))), none, none, none, none] ⟨rfl, rfl, rfl, rfl, rfl, trivial⟩ (hP ⟨c_131, by omega⟩)
            · skip
              have w1 := hv (by omega)
              have w2 := bf (by omega)
              have w3 := sf (by omega)
              refine R_aload_n dX9_bestParcel_151 rfl rfl rfl ?_
              refine R_iload dX9_bestParcel_152 rfl ?_
              refine R_iconst dX9_bestParcel_154 (v := zI (3)) rfl ?_
              refine R_cV2 0 dX9_bestParcel_155 rfl cv_X9_49 mh_get0 rfl rfl (Nat.le_of_ble_eq_true rfl) (Nat.zero_le _) (sp_X9_has (by first | assumption | exact hI.1 _ | exact hI1.1 _ | exact hI2.1 _ | omega | (refine ⟨?_, ?_⟩ <;> omega)) (kq.v ?_))
              refine R_aload_n dX9_bestParcel_158 rfl rfl rfl ?_
              refine R_iload_n dX9_bestParcel_159 rfl rfl ?_
              refine R_iconst dX9_bestParcel_160 (v := zI (3)) rfl ?_
              refine R_cV2 0 dX9_bestParcel_161 rfl cv_X9_49 mh_get0 rfl rfl (Nat.le_of_ble_eq_true rfl) (Nat.zero_le _) (sp_X9_has (by first | assumption | exact hI.1 _ | exact hI1.1 _ | exact hI2.1 _ | omega | (refine ⟨?_, ?_⟩ <;> omega)) (kq.v ?_))
              refine Z_icmp_le dX9_bestParcel_164 (by first | exact hI.1 _ | assumption | exact hI1.1 _ | exact hI2.1 _ | exact ⟨by omega, by omega⟩) (by first | exact hI.1 _ | assumption | exact hI1.1 _ | exact hI2.1 _ | exact ⟨by omega, by omega⟩) (tgt := 173) (by decide) (fun c_164 => ?_) (fun c_164 => ?_)
              · skip
                refine Z_iinc dX9_bestParcel_173 rfl (by decide) rfl rfl ?_
                refine R_goto dX9_bestParcel_176 (tgt := 25) (by decide) ?_
                first | exact At.dropS [some (.ref b), some (.int (zI q)), some (.int (zI f)), some (.int (zI g)), some (.int (zI (n + 1))), none, none, none, none] ⟨rfl, rfl, rfl, rfl, rfl, trivial⟩ (hN (by first | exact fun z => c_131 z.1 | (intro z; obtain ⟨-, z | z | z⟩ := z <;> omega))) | exact At.dropS [some (.ref b), some (.int (zI q)), some (.int (zI n)), some (.int (zI (oneF σ q n + twoF σ q n))), some (.int (zI (n + 1))), none, none, none, none] ⟨rfl, rfl, rfl, rfl, rfl, trivial⟩ (hP ⟨c_131, by omega⟩)
              · skip
                refine R_iload dX9_bestParcel_167 rfl ?_
                refine R_istore_n dX9_bestParcel_169 rfl (by decide) rfl rfl ?_
                refine R_iload dX9_bestParcel_170 rfl ?_
                refine R_istore_n dX9_bestParcel_172 rfl (by decide) rfl rfl ?_
                refine Z_iinc dX9_bestParcel_173 rfl (by decide) rfl rfl ?_
                refine R_goto dX9_bestParcel_176 (tgt := 25) (by decide) ?_
                first | exact At.dropS [some (.ref b), some (.int (zI q)), some (.int (zI f)), some (.int (zI g)), some (.int (zI (n + 1))), none, none, none, none] ⟨rfl, rfl, rfl, rfl, rfl, trivial⟩ (hN (by first | exact fun z => c_131 z.1 | (intro z; obtain ⟨-, z | z | z⟩ := z <;> omega))) | exact At.dropS [some (.ref b), some (.int (zI q)), some (.int (zI n)), some (.int (zI (oneF σ q n + twoF σ q n))), some (.int (zI (n + 1))), none, none, none, none] ⟨rfl, rfl, rfl, rfl, rfl, trivial⟩ (hP ⟨c_131, by omega⟩)
    · skip
      refine R_aload_n dX9_bestParcel_78 rfl rfl rfl ?_
      refine R_iload dX9_bestParcel_79 rfl ?_
      refine R_iconst dX9_bestParcel_81 (v := zI (4)) rfl ?_
      refine R_cV2 0 dX9_bestParcel_82 rfl cv_X9_49 mh_get0 rfl rfl (Nat.le_of_ble_eq_true rfl) (Nat.zero_le _) (sp_X9_has (by first | assumption | exact hI.1 _ | exact hI1.1 _ | exact hI2.1 _ | omega | (refine ⟨?_, ?_⟩ <;> omega)) (kq.v ?_))
      refine Z_if_ne dX9_bestParcel_85 (by first | exact hI.1 _ | assumption | exact hI1.1 _ | exact hI2.1 _ | exact ⟨by omega, by omega⟩) (tgt := 119) (by decide) (fun c_85 => ?_) (fun c_85 => ?_)
      · skip
        refine R_iconst dX9_bestParcel_119 (v := zI (0)) rfl ?_
        exact jf_78 (by first | exact ⟨by omega, by omega, by omega, by omega⟩ | exact fun z => absurd z.1 (by omega) | exact fun z => absurd z.2.1 (by omega) | exact fun z => absurd z.2.2.1 (by omega) | exact fun z => absurd z.2.2.2 (by omega))
      · skip
        refine R_iload dX9_bestParcel_88 rfl ?_
        refine R_iconst dX9_bestParcel_90 (v := zI (-1)) rfl ?_
        refine Z_icmp_eq dX9_bestParcel_91 (by first | exact hI.1 _ | assumption | exact hI1.1 _ | exact hI2.1 _ | exact ⟨by omega, by omega⟩) (by first | exact hI.1 _ | assumption | exact hI1.1 _ | exact hI2.1 _ | exact ⟨by omega, by omega⟩) (tgt := 119) (by decide) (fun c_91 => ?_) (fun c_91 => ?_)
        · skip
          refine R_iconst dX9_bestParcel_119 (v := zI (0)) rfl ?_
          exact jf_78 (by first | exact ⟨by omega, by omega, by omega, by omega⟩ | exact fun z => absurd z.1 (by omega) | exact fun z => absurd z.2.1 (by omega) | exact fun z => absurd z.2.2.1 (by omega) | exact fun z => absurd z.2.2.2 (by omega))
        · skip
          refine R_iload dX9_bestParcel_94 rfl ?_
          refine R_iconst dX9_bestParcel_96 (v := zI (-1)) rfl ?_
          refine Z_icmp_eq dX9_bestParcel_97 (by first | exact hI.1 _ | assumption | exact hI1.1 _ | exact hI2.1 _ | exact ⟨by omega, by omega⟩) (by first | exact hI.1 _ | assumption | exact hI1.1 _ | exact hI2.1 _ | exact ⟨by omega, by omega⟩) (tgt := 119) (by decide) (fun c_97 => ?_) (fun c_97 => ?_)
          · skip
            refine R_iconst dX9_bestParcel_119 (v := zI (0)) rfl ?_
            exact jf_78 (by first | exact ⟨by omega, by omega, by omega, by omega⟩ | exact fun z => absurd z.1 (by omega) | exact fun z => absurd z.2.1 (by omega) | exact fun z => absurd z.2.2.1 (by omega) | exact fun z => absurd z.2.2.2 (by omega))
          · skip
            refine R_aload_n dX9_bestParcel_100 rfl rfl rfl ?_
            refine R_iload dX9_bestParcel_101 rfl ?_
            refine R_iconst dX9_bestParcel_103 (v := zI (2)) rfl ?_
            refine R_cV2 0 dX9_bestParcel_104 rfl cv_X9_49 mh_get0 rfl rfl (Nat.le_of_ble_eq_true rfl) (Nat.zero_le _) (sp_X9_has (by first | assumption | exact hI.1 _ | exact hI1.1 _ | exact hI2.1 _ | omega | (refine ⟨?_, ?_⟩ <;> omega)) (kq.v ?_))
            refine R_aload_n dX9_bestParcel_107 rfl rfl rfl ?_
            refine R_iload_n dX9_bestParcel_108 rfl rfl ?_
            refine R_cV1 0 dX9_bestParcel_109 rfl cv_X9_109 mh_get0 rfl rfl (Nat.le_of_ble_eq_true rfl) (Nat.zero_le _) (sp_X9_carries hq (hI2.1 _) (kq.v ?_))
            rw [ec2, ec]
            refine Z_icmp_gt dX9_bestParcel_112 (by first | exact hI.1 _ | assumption | exact hI1.1 _ | exact hI2.1 _ | exact ⟨by omega, by omega⟩) (by first | exact hI.1 _ | assumption | exact hI1.1 _ | exact hI2.1 _ | exact ⟨by omega, by omega⟩) (tgt := 119) (by decide) (fun c_112 => ?_) (fun c_112 => ?_)
            · skip
              refine R_iconst dX9_bestParcel_119 (v := zI (0)) rfl ?_
              exact jf_78 (by first | exact ⟨by omega, by omega, by omega, by omega⟩ | exact fun z => absurd z.1 (by omega) | exact fun z => absurd z.2.1 (by omega) | exact fun z => absurd z.2.2.1 (by omega) | exact fun z => absurd z.2.2.2 (by omega))
            · skip
              refine R_iconst dX9_bestParcel_115 (v := zI (1)) rfl ?_
              refine R_goto dX9_bestParcel_116 (tgt := 120) (by decide) ?_
              exact jt_78 (by first | exact ⟨by omega, by omega, by omega, by omega⟩ | exact fun z => absurd z.1 (by omega) | exact fun z => absurd z.2.1 (by omega) | exact fun z => absurd z.2.2.1 (by omega) | exact fun z => absurd z.2.2.2 (by omega))

noncomputable def bestF (σ : St) (q : Int) : Int := bpR σ q (σ 117).toNat 0 (-1) 0

theorem sp_X9_bestParcel {Ω : Wd} {d r : Nat} {Q : Hp → Out → Prop} {b : Nat} {h0 : Hp} {σ : St} {q : Int} {τ : St} (hτ : us σ 703 0 = τ) (hI : MI τ) (hcap : 1 ≤ τ 166 ∧ τ 166 ≤ 9) (hq : rg q) (h1 : ¬ (0 ≤ q ∧ q ≤ 3) → Q (mh b h0 (us τ 703 1)) (.inl (some (.int (zI 0))))) (h2 : (0 ≤ q ∧ q ≤ 3) → ∀ τ', eqF τ τ' → bestF τ q = -1 → Q (mh b h0 (us τ' 703 2)) (.inl (some (.int (zI 0))))) (h3 : (0 ≤ q ∧ q ≤ 3) → ∀ τ', eqF τ τ' → ¬ bestF τ q = -1 → Q (mh b h0 τ') (.inl (some (.int (zI (bestF τ q)))))) : Ok Ω M_X9_bestParcel (d + 3) r [.ref b, .int (zI q)] (mh b h0 (σ)) Q := by
  refine Ok.of (by decide) rfl (Nat.le_of_ble_eq_true rfl) rfl ?_
  refine R_aload_n dX9_bestParcel_0 rfl rfl rfl ?_
  refine R_iconst dX9_bestParcel_1 (v := zI (0)) rfl ?_
  refine Zm_pf7 dX9_bestParcel_2 pf_X9_38 ?_
  rw [hτ]
  refine R_iload_n dX9_bestParcel_5 rfl rfl ?_
  refine R_cS1 0 dX9_bestParcel_6 rfl cs_X9_134 (Nat.le_of_ble_eq_true rfl) (Nat.zero_le _) (sp_X9_isCourier (by first | assumption | exact hI.1 _ | exact hI1.1 _ | exact hI2.1 _ | omega | (refine ⟨?_, ?_⟩ <;> omega)) (kq.v ?_))
  refine Z_if_neB dX9_bestParcel_9 (tgt := 18) (by decide) (fun c_9 => ?_) (fun c_9 => ?_)
  · skip
    have h117 := hI.2.2.1
    refine R_iconst dX9_bestParcel_18 (v := zI (-1)) rfl ?_
    refine R_istore_n dX9_bestParcel_19 rfl (by decide) rfl rfl ?_
    refine R_iconst dX9_bestParcel_20 (v := zI (0)) rfl ?_
    refine R_istore_n dX9_bestParcel_21 rfl (by decide) rfl rfl ?_
    refine R_iconst dX9_bestParcel_22 (v := zI (0)) rfl ?_
    refine R_istore dX9_bestParcel_23 (by decide) rfl rfl ?_
    exact At.dropS [some (.ref b), some (.int (zI q)), some (.int (zI (-1))), some (.int (zI 0)), some (.int (zI 0)), none, none, none, none] ⟨rfl, rfl, rfl, rfl, rfl, trivial⟩ (lp_bp hI (by omega) hcap (τ 117).toNat 0 (-1) 0 _ (eqF.refl hI.1) (by omega) (by omega) (by omega) (by omega) (h3 (by omega)) (h2 (by omega)))
  · skip
    refine R_aload_n dX9_bestParcel_12 rfl rfl rfl ?_
    refine R_iconst dX9_bestParcel_13 (v := zI (1)) rfl ?_
    refine R_cV1 0 dX9_bestParcel_14 rfl cv_X9_122 mh_get0 rfl rfl (Nat.le_of_ble_eq_true rfl) (Nat.zero_le _) (sp_X9_throwing  (kq.v ?_))
    refine Z_retI dX9_bestParcel_17 (rf_i rfl) ?_
    exact h1 (by omega)

