/-! the model: moves and orders -/
set_option maxRecDepth 100000
theorem us_P {σ : St} {i v k : Int} {P : Int → Prop} (h1 : k = i → P v) (h2 : P (σ k)) : P (us σ i v k) := by
  unfold us
  split
  · exact h1 ‹_›
  · exact h2
theorem MI_cour {σ : St} (hI : MI σ) {c w v i : Int} (hc : 0 ≤ c ∧ c < 4) (hi : i = 97 + 5 * c + w) (hw : (w = 0 ∧ 0 ≤ v ∧ v < 10) ∨ (w = 1 ∧ 0 ≤ v ∧ v ≤ 1) ∨ (w = 2 ∧ -1 ≤ v ∧ v < σ 0) ∨ ((w = 3 ∨ w = 4) ∧ rg v)) : MI (us σ i v) := by
  obtain ⟨h1, h2, h3, h4, h5, h6, h7, h8, h9⟩ := hI
  have e0 : us σ i v 0 = σ 0 := us_ne (by omega)
  have e1 : us σ i v 117 = σ 117 := us_ne (by omega)
  refine ⟨rg_us h1 ⟨by omega, by omega⟩, by rw [e0]; exact h2, by rw [e1]; exact h3, by rw [us_ne (by omega)]; exact h4, by rw [us_ne (by omega)]; exact h5, by rw [us_ne (by omega)]; exact h6, ?_, ?_, ?_⟩
  · intro c' hc'
    have := h7 c' hc'
    rw [e0]
    unfold us
    refine ⟨?_, ?_, ?_⟩ <;> split <;> omega
  · intro k hk
    rw [e0] at hk
    rw [us_ne (by omega), us_ne (by omega), us_ne (by omega), us_ne (by omega)]; exact h8 k hk
  · intro p hp
    rw [e1] at hp
    rw [us_ne (by omega), us_ne (by omega), us_ne (by omega), us_ne (by omega), us_ne (by omega), us_ne (by omega)]; exact h9 p hp
theorem MI_parc {σ : St} (hI : MI σ) {p w v i : Int} (hp : 0 ≤ p ∧ p < 8) (hi : i = 118 + 6 * p + w) (hw : ((w = 0 ∨ w = 1) ∧ 0 ≤ v ∧ v < 10) ∨ (w = 2 ∧ 1 ≤ v ∧ v ≤ 5) ∨ (w = 3 ∧ 1 ≤ v ∧ v ≤ 9) ∨ (w = 4 ∧ 0 ≤ v ∧ v ≤ 2) ∨ (w = 5 ∧ -1 ≤ v ∧ v < 4)) : MI (us σ i v) := by
  obtain ⟨h1, h2, h3, h4, h5, h6, h7, h8, h9⟩ := hI
  have e0 : us σ i v 0 = σ 0 := us_ne (by omega)
  have e1 : us σ i v 117 = σ 117 := us_ne (by omega)
  refine ⟨rg_us h1 ⟨by omega, by omega⟩, by rw [e0]; exact h2, by rw [e1]; exact h3, by rw [us_ne (by omega)]; exact h4, by rw [us_ne (by omega)]; exact h5, by rw [us_ne (by omega)]; exact h6, ?_, ?_, ?_⟩
  · intro c hc
    rw [e0, us_ne (by omega), us_ne (by omega), us_ne (by omega)]; exact h7 c hc
  · intro k hk
    rw [e0] at hk
    rw [us_ne (by omega), us_ne (by omega), us_ne (by omega), us_ne (by omega)]; exact h8 k hk
  · intro p' hp'
    rw [e1] at hp'
    have := h9 p' hp'
    unfold us
    refine ⟨?_, ?_, ?_, ?_, ?_, ?_⟩ <;> split <;> omega
theorem MI_str {σ : St} (hI : MI σ) {k w v i : Int} (hk : 0 ≤ k ∧ k < 24) (hi : i = 1 + 4 * k + w) (hw : ((w = 0 ∨ w = 1) ∧ 0 ≤ v ∧ v < 10) ∨ ((w = 2 ∨ w = 3) ∧ 0 ≤ v ∧ v ≤ 1)) : MI (us σ i v) := by
  obtain ⟨h1, h2, h3, h4, h5, h6, h7, h8, h9⟩ := hI
  have e0 : us σ i v 0 = σ 0 := us_ne (by omega)
  have e1 : us σ i v 117 = σ 117 := us_ne (by omega)
  refine ⟨rg_us h1 ⟨by omega, by omega⟩, by rw [e0]; exact h2, by rw [e1]; exact h3, by rw [us_ne (by omega)]; exact h4, by rw [us_ne (by omega)]; exact h5, by rw [us_ne (by omega)]; exact h6, ?_, ?_, ?_⟩
  · intro c hc
    rw [e0, us_ne (by omega), us_ne (by omega), us_ne (by omega)]; exact h7 c hc
  · intro k' hk'
    rw [e0] at hk'
    have := h8 k' hk'
    unfold us
    refine ⟨?_, ?_, ?_, ?_⟩ <;> split <;> omega
  · intro p hp
    rw [e1] at hp
    rw [us_ne (by omega), us_ne (by omega), us_ne (by omega), us_ne (by omega), us_ne (by omega), us_ne (by omega)]; exact h9 p hp

abbrev movP (σ : St) (c q : Int) : Prop := ¬ c = q ∧ σ (720 + c) = 0
abbrev toF (σ : St) (c : Int) : Int := σ (1 + 4 * σ (97 + 5 * c + 2) + 1)
abbrev frF (σ : St) (c : Int) : Int := σ (1 + 4 * σ (97 + 5 * c + 2))
def exS (σ : St) (q : Int) : Nat → Prop
  | 0 => False
  | n + 1 => exS σ q n ∨ (movP σ n q ∧ toF σ n = frF σ q ∧ frF σ n = toF σ q)
def heS (σ : St) (q : Int) : Nat → Prop
  | 0 => False
  | n + 1 => heS σ q n ∨ ((movP σ n q ∧ toF σ n = toF σ q) ∧ loadF σ q < loadF σ n)
def asS (σ : St) (q : Int) : Nat → Prop
  | 0 => False
  | n + 1 => asS σ q n ∨ ((movP σ n q ∧ toF σ n = toF σ q) ∧ loadF σ n = loadF σ q)
def stS (σ : St) (q : Int) : Nat → Prop
  | 0 => False
  | n + 1 => stS σ q n ∨ (¬ (n : Int) = q ∧ ¬ movP σ n q ∧ σ (97 + 5 * (n : Int) + 0) = toF σ q)
noncomputable def failF (σ : St) (q : Int) : Int := pif (exS σ q 4) 2 (pif (heS σ q 4) 3 (pif (asS σ q 4) 4 (pif (stS σ q 4) 5 0)))
theorem failF_bd (σ : St) (q : Int) : 0 ≤ failF σ q ∧ failF σ q ≤ 5 := by
  unfold failF pif
  split
  · decide
  · split
    · decide
    · split
      · decide
      · split <;> decide

theorem sp_X9_isMoving {Ω : Wd} {d r : Nat} {Q : Hp → Out → Prop} {b : Nat} {h0 : Hp} {σ : St} {c q : Int} (hc : 0 ≤ c ∧ c < 4) (hq : 0 ≤ q ∧ q < 4) (hr : rg (σ (720 + c))) (hQ : Q (mh b h0 (σ)) (.inl (some (.int (zI (b2i (movP σ c q))))))) : Ok Ω M_X9_isMoving d r [.ref b, .int (zI c), .int (zI q)] (mh b h0 (σ)) Q := by
  refine Ok.of (by decide) rfl (Nat.le_of_ble_eq_true rfl) rfl ?_
  refine R_iload_n dX9_isMoving_0 rfl rfl ?_
  refine R_iload_n dX9_isMoving_1 rfl rfl ?_
  refine Z_icmp_eq dX9_isMoving_2 (by first | exact hI.1 _ | assumption | exact hI1.1 _ | exact hI2.1 _ | exact ⟨by omega, by omega⟩) (by first | exact hI.1 _ | assumption | exact hI1.1 _ | exact hI2.1 _ | exact ⟨by omega, by omega⟩) (tgt := 18) (by decide) (fun c_2 => ?_) (fun c_2 => ?_)
  · skip
    refine R_iconst dX9_isMoving_18 (v := zI (0)) rfl ?_
    refine Z_retI dX9_isMoving_19 (rf01 rfl (by omega)) ?_
    exact mQi hQ rfl (by first | exact b2i_1 ⟨‹_›, ‹_›⟩ | exact b2i_0 (fun z => absurd ‹_› z.1) | exact b2i_0 (fun z => absurd z.2 ‹_›))
  · skip
    refine R_aload_n dX9_isMoving_5 rfl rfl rfl ?_
    refine Zm_gf dX9_isMoving_6 gf_X9_25 rfl ?_
    refine R_iload_n dX9_isMoving_9 rfl rfl ?_
    refine Zm_ld6 dX9_isMoving_10 (by omega) ?_
    refine Z_if_ne dX9_isMoving_11 (by first | exact hI.1 _ | assumption | exact hI1.1 _ | exact hI2.1 _ | exact ⟨by omega, by omega⟩) (tgt := 18) (by decide) (fun c_11 => ?_) (fun c_11 => ?_)
    · skip
      refine R_iconst dX9_isMoving_18 (v := zI (0)) rfl ?_
      refine Z_retI dX9_isMoving_19 (rf01 rfl (by omega)) ?_
      exact mQi hQ rfl (by first | exact b2i_1 ⟨‹_›, ‹_›⟩ | exact b2i_0 (fun z => absurd ‹_› z.1) | exact b2i_0 (fun z => absurd z.2 ‹_›))
    · skip
      refine R_iconst dX9_isMoving_14 (v := zI (1)) rfl ?_
      refine R_goto dX9_isMoving_15 (tgt := 19) (by decide) ?_
      refine Z_retI dX9_isMoving_19 (rf01 rfl (by omega)) ?_
      exact mQi hQ rfl (by first | exact b2i_1 ⟨‹_›, ‹_›⟩ | exact b2i_0 (fun z => absurd ‹_› z.1) | exact b2i_0 (fun z => absurd z.2 ‹_›))

theorem lp_failing {Ω : Wd} {d r : Nat} {Q : Hp → Out → Prop} {b : Nat} {h0 : Hp} {σ : St} {q : Int} (hI : MI σ) (hq : 0 ≤ q ∧ q < 4) (ho : 0 ≤ σ (97 + 5 * q + 2)) (hO : ∀ c : Int, 0 ≤ c ∧ c < 4 → σ (720 + c) = 0 → 0 ≤ σ (97 + 5 * c + 2)) : ∀ (k n : Nat), n + k = 4 → At Ω M_X9_failing (d + 2) r Q 226 [some (.ref b), some (.int (zI (q))), none, some (.int (zI (b2i (exS σ q 4)))), some (.int (zI (b2i (heS σ q 4)))), some (.int (zI (b2i (asS σ q 4)))), some (.int (zI (b2i (stS σ q 4)))), none, none, none] [] (mh b h0 (σ)) → At Ω M_X9_failing (d + 2) r Q 21 [some (.ref b), some (.int (zI (q))), some (.int (zI (σ (97 + 5 * q + 2)))), some (.int (zI (b2i (exS σ q n)))), some (.int (zI (b2i (heS σ q n)))), some (.int (zI (b2i (asS σ q n)))), some (.int (zI (b2i (stS σ q n)))), some (.int (zI (((n : Nat) : Int)))), none, none] [] (mh b h0 (σ)) := by
  intro k
  induction k with
  | zero =>
    intro n hn hX
    have hnN : n = 4 := by omega
    rw [hnN]
    have h0 := hI.2.1
    have hq2 := hI.2.2.2.2.2.2.1 q hq
    refine R_iload dX9_failing_21 rfl ?_
    refine R_iconst dX9_failing_23 (v := zI (4)) rfl ?_
    refine Z_icmp_ge dX9_failing_24 (by first | exact hI.1 _ | assumption | exact hI1.1 _ | exact hI2.1 _ | exact ⟨by omega, by omega⟩) (by first | exact hI.1 _ | assumption | exact hI1.1 _ | exact hI2.1 _ | exact ⟨by omega, by omega⟩) (tgt := 226) (by decide) (fun c_24 => ?_) (fun c_24 => absurd c_24 (by omega))
    exact At.dropS (L' := [some (.ref b), some (.int (zI (q))), none, some (.int (zI (b2i (exS σ q 4)))), some (.int (zI (b2i (heS σ q 4)))), some (.int (zI (b2i (asS σ q 4)))), some (.int (zI (b2i (stS σ q 4)))), none, none, none]) ⟨rfl, rfl, rfl, rfl, rfl, rfl, trivial⟩ hX
  | succ k ih =>
    intro n hn hX
    have h0 := hI.2.1
    have hq2 := hI.2.2.2.2.2.2.1 q hq
    refine R_iload dX9_failing_21 rfl ?_
    refine R_iconst dX9_failing_23 (v := zI (4)) rfl ?_
    refine Z_icmp_ge dX9_failing_24 (by first | exact hI.1 _ | assumption | exact hI1.1 _ | exact hI2.1 _ | exact ⟨by omega, by omega⟩) (by first | exact hI.1 _ | assumption | exact hI1.1 _ | exact hI2.1 _ | exact ⟨by omega, by omega⟩) (tgt := 226) (by decide) (fun c_24 => absurd c_24 (by omega)) (fun c_24 => ?_)
    refine R_aload_n dX9_failing_27 rfl rfl rfl ?_
    refine R_iload dX9_failing_28 rfl ?_
    refine R_iload_n dX9_failing_30 rfl rfl ?_
    refine R_cV2 0 dX9_failing_31 rfl cv_X9_87 mh_get0 rfl rfl (Nat.le_of_ble_eq_true rfl) (Nat.zero_le _) (sp_X9_isMoving (by first | assumption | exact hI.1 _ | exact hI1.1 _ | exact hI2.1 _ | omega | (refine ⟨?_, ?_⟩ <;> omega)) (by first | assumption | exact hI.1 _ | exact hI1.1 _ | exact hI2.1 _ | omega | (refine ⟨?_, ?_⟩ <;> omega)) (by first | assumption | exact hI.1 _ | exact hI1.1 _ | exact hI2.1 _ | omega | (refine ⟨?_, ?_⟩ <;> omega)) (kq.v ?_))
    refine R_istore dX9_failing_34 (by decide) rfl rfl ?_
    have hn2 := hI.2.2.2.2.2.2.1 ((n : Nat) : Int) (by omega)
    have hn3 : movP σ ((n : Nat) : Int) q → 0 ≤ σ (97 + 5 * ((n : Nat) : Int) + 2) := fun z => hO _ (by omega) z.2
    refine z_joinB (exS σ q n ∨ (movP σ ((n : Nat) : Int) q ∧ toF σ ((n : Nat) : Int) = frF σ q ∧ frF σ ((n : Nat) : Int) = toF σ q)) 88 ?_ (fun jt_36 jf_36 => ?_)
    · skip
      refine R_istore_n dX9_failing_88 rfl (by decide) rfl rfl ?_
      refine z_joinB (movP σ ((n : Nat) : Int) q ∧ toF σ ((n : Nat) : Int) = toF σ q) 118 ?_ (fun jt_89 jf_89 => ?_)
      · skip
        refine R_istore dX9_failing_118 (by decide) rfl rfl ?_
        refine z_joinB (heS σ q n ∨ ((movP σ ((n : Nat) : Int) q ∧ toF σ ((n : Nat) : Int) = toF σ q) ∧ loadF σ q < loadF σ ((n : Nat) : Int))) 149 ?_ (fun jt_120 jf_120 => ?_)
        · skip
          refine R_istore dX9_failing_149 (by decide) rfl rfl ?_
          refine z_joinB (asS σ q n ∨ ((movP σ ((n : Nat) : Int) q ∧ toF σ ((n : Nat) : Int) = toF σ q) ∧ loadF σ ((n : Nat) : Int) = loadF σ q)) 180 ?_ (fun jt_151 jf_151 => ?_)
          · skip
            refine R_istore dX9_failing_180 (by decide) rfl rfl ?_
            refine z_joinB (stS σ q n ∨ (¬ ((n : Nat) : Int) = q ∧ ¬ movP σ ((n : Nat) : Int) q ∧ σ (97 + 5 * ((n : Nat) : Int) + 0) = toF σ q)) 218 ?_ (fun jt_182 jf_182 => ?_)
            · skip
              refine R_istore dX9_failing_218 (by decide) rfl rfl ?_
              refine Z_iinc dX9_failing_220 rfl (by decide) rfl rfl ?_
              refine R_goto dX9_failing_223 (tgt := 21) (by decide) ?_
              exact At.dropS (L' := [some (.ref b), some (.int (zI (q))), some (.int (zI (σ (97 + 5 * q + 2)))), some (.int (zI (b2i (exS σ q (n + 1))))), some (.int (zI (b2i (heS σ q (n + 1))))), some (.int (zI (b2i (asS σ q (n + 1))))), some (.int (zI (b2i (stS σ q (n + 1))))), some (.int (zI ((((n + 1) : Nat) : Int)))), none, none]) ⟨rfl, rfl, rfl, rfl, rfl, rfl, rfl, rfl, trivial⟩ (ih (n + 1) (by omega) hX)
            · skip
              refine R_iload dX9_failing_182 rfl ?_
              refine Z_if_neB dX9_failing_184 (tgt := 213) (by decide) (fun c_184 => ?_) (fun c_184 => ?_)
              · skip
                refine R_iconst dX9_failing_213 (v := zI (1)) rfl ?_
                refine R_goto dX9_failing_214 (tgt := 218) (by decide) ?_
                exact jt_182 (by first | assumption | omega | grind | (simp [*]; done) | (simp_all; done))
              · skip
                refine R_iload dX9_failing_187 rfl ?_
                refine R_iload_n dX9_failing_189 rfl rfl ?_
                refine Z_icmp_eq dX9_failing_190 (by first | exact hI.1 _ | assumption | exact hI1.1 _ | exact hI2.1 _ | exact ⟨by omega, by omega⟩) (by first | exact hI.1 _ | assumption | exact hI1.1 _ | exact hI2.1 _ | exact ⟨by omega, by omega⟩) (tgt := 217) (by decide) (fun c_190 => ?_) (fun c_190 => ?_)
                · skip
                  refine R_iconst dX9_failing_217 (v := zI (0)) rfl ?_
                  exact jf_182 (by first | assumption | omega | grind | (simp [*]; done) | (simp_all; done))
                · skip
                  refine R_iload dX9_failing_193 rfl ?_
                  refine Z_if_neB dX9_failing_195 (tgt := 217) (by decide) (fun c_195 => ?_) (fun c_195 => ?_)
                  · skip
                    refine R_iconst dX9_failing_217 (v := zI (0)) rfl ?_
                    exact jf_182 (by first | assumption | omega | grind | (simp [*]; done) | (simp_all; done))
                  · skip
                    refine R_aload_n dX9_failing_198 rfl rfl rfl ?_
                    refine R_iload dX9_failing_199 rfl ?_
                    refine R_iconst dX9_failing_201 (v := zI (0)) rfl ?_
                    refine R_cV2 0 dX9_failing_202 rfl cv_X9_53 mh_get0 rfl rfl (Nat.le_of_ble_eq_true rfl) (Nat.zero_le _) (sp_X9_of (by first | assumption | exact hI.1 _ | exact hI1.1 _ | exact hI2.1 _ | omega | (refine ⟨?_, ?_⟩ <;> omega)) (kq.v ?_))
                    refine R_aload_n dX9_failing_205 rfl rfl rfl ?_
                    refine R_iload_n dX9_failing_206 rfl rfl ?_
                    refine R_cV1 0 dX9_failing_207 rfl cv_X9_91 mh_get0 rfl rfl (Nat.le_of_ble_eq_true rfl) (Nat.zero_le _) (sp_X9_to (by first | assumption | exact hI.1 _ | exact hI1.1 _ | exact hI2.1 _ | omega | (refine ⟨?_, ?_⟩ <;> omega)) (kq.v ?_))
                    refine Z_icmp_ne dX9_failing_210 (by first | exact hI.1 _ | assumption | exact hI1.1 _ | exact hI2.1 _ | exact ⟨by omega, by omega⟩) (by first | exact hI.1 _ | assumption | exact hI1.1 _ | exact hI2.1 _ | exact ⟨by omega, by omega⟩) (tgt := 217) (by decide) (fun c_210 => ?_) (fun c_210 => ?_)
                    · skip
                      refine R_iconst dX9_failing_217 (v := zI (0)) rfl ?_
                      exact jf_182 (by first | assumption | omega | grind | (simp [*]; done) | (simp_all; done))
                    · skip
                      refine R_iconst dX9_failing_213 (v := zI (1)) rfl ?_
                      refine R_goto dX9_failing_214 (tgt := 218) (by decide) ?_
                      exact jt_182 (by first | assumption | omega | grind | (simp [*]; done) | (simp_all; done))
          · skip
            refine R_iload dX9_failing_151 rfl ?_
            refine Z_if_neB dX9_failing_153 (tgt := 175) (by decide) (fun c_153 => ?_) (fun c_153 => ?_)
            · skip
              refine R_iconst dX9_failing_175 (v := zI (1)) rfl ?_
              refine R_goto dX9_failing_176 (tgt := 180) (by decide) ?_
              exact jt_151 (by first | assumption | omega | grind | (simp [*]; done) | (simp_all; done))
            · skip
              refine R_iload dX9_failing_156 rfl ?_
              refine Z_if_eqB dX9_failing_158 (tgt := 179) (by decide) (fun c_158 => ?_) (fun c_158 => ?_)
              · skip
                refine R_iconst dX9_failing_179 (v := zI (0)) rfl ?_
                exact jf_151 (by first | assumption | omega | grind | (simp [*]; done) | (simp_all; done))
              · skip
                have hl1 := loadF_bd hI q
                have hl2 := loadF_bd hI ((n : Nat) : Int)
                refine R_aload_n dX9_failing_161 rfl rfl rfl ?_
                refine R_iload dX9_failing_162 rfl ?_
                refine R_cV1 0 dX9_failing_164 rfl cv_X9_94 mh_get0 rfl rfl (Nat.le_of_ble_eq_true rfl) (Nat.zero_le _) (sp_X9_load (by first | assumption | exact hI.1 _ | exact hI1.1 _ | exact hI2.1 _ | omega | (refine ⟨?_, ?_⟩ <;> omega)) (by first | assumption | exact hI.1 _ | exact hI1.1 _ | exact hI2.1 _ | omega | (refine ⟨?_, ?_⟩ <;> omega)) (kq.v ?_))
                refine R_aload_n dX9_failing_167 rfl rfl rfl ?_
                refine R_iload_n dX9_failing_168 rfl rfl ?_
                refine R_cV1 0 dX9_failing_169 rfl cv_X9_94 mh_get0 rfl rfl (Nat.le_of_ble_eq_true rfl) (Nat.zero_le _) (sp_X9_load (by first | assumption | exact hI.1 _ | exact hI1.1 _ | exact hI2.1 _ | omega | (refine ⟨?_, ?_⟩ <;> omega)) (by first | assumption | exact hI.1 _ | exact hI1.1 _ | exact hI2.1 _ | omega | (refine ⟨?_, ?_⟩ <;> omega)) (kq.v ?_))
                refine Z_icmp_ne dX9_failing_172 (by first | exact hI.1 _ | assumption | exact hI1.1 _ | exact hI2.1 _ | exact ⟨by omega, by omega⟩) (by first | exact hI.1 _ | assumption | exact hI1.1 _ | exact hI2.1 _ | exact ⟨by omega, by omega⟩) (tgt := 179) (by decide) (fun c_172 => ?_) (fun c_172 => ?_)
                · skip
                  refine R_iconst dX9_failing_179 (v := zI (0)) rfl ?_
                  exact jf_151 (by first | assumption | omega | grind | (simp [*]; done) | (simp_all; done))
                · skip
                  refine R_iconst dX9_failing_175 (v := zI (1)) rfl ?_
                  refine R_goto dX9_failing_176 (tgt := 180) (by decide) ?_
                  exact jt_151 (by first | assumption | omega | grind | (simp [*]; done) | (simp_all; done))
        · skip
          refine R_iload dX9_failing_120 rfl ?_
          refine Z_if_neB dX9_failing_122 (tgt := 144) (by decide) (fun c_122 => ?_) (fun c_122 => ?_)
          · skip
            refine R_iconst dX9_failing_144 (v := zI (1)) rfl ?_
            refine R_goto dX9_failing_145 (tgt := 149) (by decide) ?_
            exact jt_120 (by first | assumption | omega | grind | (simp [*]; done) | (simp_all; done))
          · skip
            refine R_iload dX9_failing_125 rfl ?_
            refine Z_if_eqB dX9_failing_127 (tgt := 148) (by decide) (fun c_127 => ?_) (fun c_127 => ?_)
            · skip
              refine R_iconst dX9_failing_148 (v := zI (0)) rfl ?_
              exact jf_120 (by first | assumption | omega | grind | (simp [*]; done) | (simp_all; done))
            · skip
              have hl1 := loadF_bd hI q
              have hl2 := loadF_bd hI ((n : Nat) : Int)
              refine R_aload_n dX9_failing_130 rfl rfl rfl ?_
              refine R_iload dX9_failing_131 rfl ?_
              refine R_cV1 0 dX9_failing_133 rfl cv_X9_94 mh_get0 rfl rfl (Nat.le_of_ble_eq_true rfl) (Nat.zero_le _) (sp_X9_load (by first | assumption | exact hI.1 _ | exact hI1.1 _ | exact hI2.1 _ | omega | (refine ⟨?_, ?_⟩ <;> omega)) (by first | assumption | exact hI.1 _ | exact hI1.1 _ | exact hI2.1 _ | omega | (refine ⟨?_, ?_⟩ <;> omega)) (kq.v ?_))
              refine R_aload_n dX9_failing_136 rfl rfl rfl ?_
              refine R_iload_n dX9_failing_137 rfl rfl ?_
              refine R_cV1 0 dX9_failing_138 rfl cv_X9_94 mh_get0 rfl rfl (Nat.le_of_ble_eq_true rfl) (Nat.zero_le _) (sp_X9_load (by first | assumption | exact hI.1 _ | exact hI1.1 _ | exact hI2.1 _ | omega | (refine ⟨?_, ?_⟩ <;> omega)) (by first | assumption | exact hI.1 _ | exact hI1.1 _ | exact hI2.1 _ | omega | (refine ⟨?_, ?_⟩ <;> omega)) (kq.v ?_))
              refine Z_icmp_le dX9_failing_141 (by first | exact hI.1 _ | assumption | exact hI1.1 _ | exact hI2.1 _ | exact ⟨by omega, by omega⟩) (by first | exact hI.1 _ | assumption | exact hI1.1 _ | exact hI2.1 _ | exact ⟨by omega, by omega⟩) (tgt := 148) (by decide) (fun c_141 => ?_) (fun c_141 => ?_)
              · skip
                refine R_iconst dX9_failing_148 (v := zI (0)) rfl ?_
                exact jf_120 (by first | assumption | omega | grind | (simp [*]; done) | (simp_all; done))
              · skip
                refine R_iconst dX9_failing_144 (v := zI (1)) rfl ?_
                refine R_goto dX9_failing_145 (tgt := 149) (by decide) ?_
                exact jt_120 (by first | assumption | omega | grind | (simp [*]; done) | (simp_all; done))
      · skip
        refine R_iload dX9_failing_89 rfl ?_
        refine Z_if_eqB dX9_failing_91 (tgt := 117) (by decide) (fun c_91 => ?_) (fun c_91 => ?_)
        · skip
          refine R_iconst dX9_failing_117 (v := zI (0)) rfl ?_
          exact jf_89 (by first | assumption | omega | grind | (simp [*]; done) | (simp_all; done))
        · skip
          have hn4 := hn3 c_91
          refine R_aload_n dX9_failing_94 rfl rfl rfl ?_
          refine R_aload_n dX9_failing_95 rfl rfl rfl ?_
          refine R_iload dX9_failing_96 rfl ?_
          refine R_iconst dX9_failing_98 (v := zI (2)) rfl ?_
          refine R_cV2 0 dX9_failing_99 rfl cv_X9_53 mh_get0 rfl rfl (Nat.le_of_ble_eq_true rfl) (Nat.zero_le _) (sp_X9_of (by first | assumption | exact hI.1 _ | exact hI1.1 _ | exact hI2.1 _ | omega | (refine ⟨?_, ?_⟩ <;> omega)) (kq.v ?_))
          refine R_cV1 0 dX9_failing_102 rfl cv_X9_91 mh_get0 rfl rfl (Nat.le_of_ble_eq_true rfl) (Nat.zero_le _) (sp_X9_to (by first | assumption | exact hI.1 _ | exact hI1.1 _ | exact hI2.1 _ | omega | (refine ⟨?_, ?_⟩ <;> omega)) (kq.v ?_))
          refine R_aload_n dX9_failing_105 rfl rfl rfl ?_
          refine R_iload_n dX9_failing_106 rfl rfl ?_
          refine R_cV1 0 dX9_failing_107 rfl cv_X9_91 mh_get0 rfl rfl (Nat.le_of_ble_eq_true rfl) (Nat.zero_le _) (sp_X9_to (by first | assumption | exact hI.1 _ | exact hI1.1 _ | exact hI2.1 _ | omega | (refine ⟨?_, ?_⟩ <;> omega)) (kq.v ?_))
          refine Z_icmp_ne dX9_failing_110 (by first | exact hI.1 _ | assumption | exact hI1.1 _ | exact hI2.1 _ | exact ⟨by omega, by omega⟩) (by first | exact hI.1 _ | assumption | exact hI1.1 _ | exact hI2.1 _ | exact ⟨by omega, by omega⟩) (tgt := 117) (by decide) (fun c_110 => ?_) (fun c_110 => ?_)
          · skip
            refine R_iconst dX9_failing_117 (v := zI (0)) rfl ?_
            exact jf_89 (by first | assumption | omega | grind | (simp [*]; done) | (simp_all; done))
          · skip
            refine R_iconst dX9_failing_113 (v := zI (1)) rfl ?_
            refine R_goto dX9_failing_114 (tgt := 118) (by decide) ?_
            exact jt_89 (by first | assumption | omega | grind | (simp [*]; done) | (simp_all; done))
    · skip
      refine R_iload_n dX9_failing_36 rfl rfl ?_
      refine Z_if_neB dX9_failing_37 (tgt := 83) (by decide) (fun c_37 => ?_) (fun c_37 => ?_)
      · skip
        refine R_iconst dX9_failing_83 (v := zI (1)) rfl ?_
        refine R_goto dX9_failing_84 (tgt := 88) (by decide) ?_
        exact jt_36 (by first | assumption | omega | grind | (simp [*]; done) | (simp_all; done))
      · skip
        refine R_iload dX9_failing_40 rfl ?_
        refine Z_if_eqB dX9_failing_42 (tgt := 87) (by decide) (fun c_42 => ?_) (fun c_42 => ?_)
        · skip
          refine R_iconst dX9_failing_87 (v := zI (0)) rfl ?_
          exact jf_36 (by first | assumption | omega | grind | (simp [*]; done) | (simp_all; done))
        · skip
          have hn4 := hn3 c_42
          refine R_aload_n dX9_failing_45 rfl rfl rfl ?_
          refine R_aload_n dX9_failing_46 rfl rfl rfl ?_
          refine R_iload dX9_failing_47 rfl ?_
          refine R_iconst dX9_failing_49 (v := zI (2)) rfl ?_
          refine R_cV2 0 dX9_failing_50 rfl cv_X9_53 mh_get0 rfl rfl (Nat.le_of_ble_eq_true rfl) (Nat.zero_le _) (sp_X9_of (by first | assumption | exact hI.1 _ | exact hI1.1 _ | exact hI2.1 _ | omega | (refine ⟨?_, ?_⟩ <;> omega)) (kq.v ?_))
          refine R_cV1 0 dX9_failing_53 rfl cv_X9_91 mh_get0 rfl rfl (Nat.le_of_ble_eq_true rfl) (Nat.zero_le _) (sp_X9_to (by first | assumption | exact hI.1 _ | exact hI1.1 _ | exact hI2.1 _ | omega | (refine ⟨?_, ?_⟩ <;> omega)) (kq.v ?_))
          refine R_aload_n dX9_failing_56 rfl rfl rfl ?_
          refine R_iload_n dX9_failing_57 rfl rfl ?_
          refine R_cV1 0 dX9_failing_58 rfl cv_X9_77 mh_get0 rfl rfl (Nat.le_of_ble_eq_true rfl) (Nat.zero_le _) (sp_X9_from (by first | assumption | exact hI.1 _ | exact hI1.1 _ | exact hI2.1 _ | omega | (refine ⟨?_, ?_⟩ <;> omega)) (kq.v ?_))
          refine Z_icmp_ne dX9_failing_61 (by first | exact hI.1 _ | assumption | exact hI1.1 _ | exact hI2.1 _ | exact ⟨by omega, by omega⟩) (by first | exact hI.1 _ | assumption | exact hI1.1 _ | exact hI2.1 _ | exact ⟨by omega, by omega⟩) (tgt := 87) (by decide) (fun c_61 => ?_) (fun c_61 => ?_)
          · skip
            refine R_iconst dX9_failing_87 (v := zI (0)) rfl ?_
            exact jf_36 (by first | assumption | omega | grind | (simp [*]; done) | (simp_all; done))
          · skip
            refine R_aload_n dX9_failing_64 rfl rfl rfl ?_
            refine R_aload_n dX9_failing_65 rfl rfl rfl ?_
            refine R_iload dX9_failing_66 rfl ?_
            refine R_iconst dX9_failing_68 (v := zI (2)) rfl ?_
            refine R_cV2 0 dX9_failing_69 rfl cv_X9_53 mh_get0 rfl rfl (Nat.le_of_ble_eq_true rfl) (Nat.zero_le _) (sp_X9_of (by first | assumption | exact hI.1 _ | exact hI1.1 _ | exact hI2.1 _ | omega | (refine ⟨?_, ?_⟩ <;> omega)) (kq.v ?_))
            refine R_cV1 0 dX9_failing_72 rfl cv_X9_77 mh_get0 rfl rfl (Nat.le_of_ble_eq_true rfl) (Nat.zero_le _) (sp_X9_from (by first | assumption | exact hI.1 _ | exact hI1.1 _ | exact hI2.1 _ | omega | (refine ⟨?_, ?_⟩ <;> omega)) (kq.v ?_))
            refine R_aload_n dX9_failing_75 rfl rfl rfl ?_
            refine R_iload_n dX9_failing_76 rfl rfl ?_
            refine R_cV1 0 dX9_failing_77 rfl cv_X9_91 mh_get0 rfl rfl (Nat.le_of_ble_eq_true rfl) (Nat.zero_le _) (sp_X9_to (by first | assumption | exact hI.1 _ | exact hI1.1 _ | exact hI2.1 _ | omega | (refine ⟨?_, ?_⟩ <;> omega)) (kq.v ?_))
            refine Z_icmp_ne dX9_failing_80 (by first | exact hI.1 _ | assumption | exact hI1.1 _ | exact hI2.1 _ | exact ⟨by omega, by omega⟩) (by first | exact hI.1 _ | assumption | exact hI1.1 _ | exact hI2.1 _ | exact ⟨by omega, by omega⟩) (tgt := 87) (by decide) (fun c_80 => ?_) (fun c_80 => ?_)
            · skip
              refine R_iconst dX9_failing_87 (v := zI (0)) rfl ?_
              exact jf_36 (by first | assumption | omega | grind | (simp [*]; done) | (simp_all; done))
            · skip
              refine R_iconst dX9_failing_83 (v := zI (1)) rfl ?_
              refine R_goto dX9_failing_84 (tgt := 88) (by decide) ?_
              exact jt_36 (by first | assumption | omega | grind | (simp [*]; done) | (simp_all; done))

theorem sp_X9_failing {Ω : Wd} {d r : Nat} {Q : Hp → Out → Prop} {b : Nat} {h0 : Hp} {σ : St} {q : Int} (hI : MI σ) (hq : 0 ≤ q ∧ q < 4) (ho : 0 ≤ σ (97 + 5 * q + 2)) (hO : ∀ c : Int, 0 ≤ c ∧ c < 4 → σ (720 + c) = 0 → 0 ≤ σ (97 + 5 * c + 2)) (hQ : Q (mh b h0 (σ)) (.inl (some (.int (zI (failF σ q)))))) : Ok Ω M_X9_failing (d + 2) r [.ref b, .int (zI q)] (mh b h0 (σ)) Q := by
  refine Ok.of (by decide) rfl (Nat.le_of_ble_eq_true rfl) rfl ?_
  refine R_aload_n dX9_failing_0 rfl rfl rfl ?_
  refine R_iload_n dX9_failing_1 rfl rfl ?_
  refine R_iconst dX9_failing_2 (v := zI (2)) rfl ?_
  refine R_cV2 0 dX9_failing_3 rfl cv_X9_53 mh_get0 rfl rfl (Nat.le_of_ble_eq_true rfl) (Nat.zero_le _) (sp_X9_of (by first | assumption | exact hI.1 _ | exact hI1.1 _ | exact hI2.1 _ | omega | (refine ⟨?_, ?_⟩ <;> omega)) (kq.v ?_))
  refine R_istore_n dX9_failing_6 rfl (by decide) rfl rfl ?_
  refine At.dropS [some (.ref b), some (.int (zI q)), some (.int (zI (σ (97 + 5 * q + 2)))), none, none, none, none, none, none, none] ⟨rfl, rfl, rfl, trivial⟩ ?_
  refine R_iconst dX9_failing_7 (v := zI (b2i False)) (by rw [b2i_0 id]) ?_
  refine R_istore_n dX9_failing_8 rfl (by decide) rfl rfl ?_
  refine R_iconst dX9_failing_9 (v := zI (b2i False)) (by rw [b2i_0 id]) ?_
  refine R_istore dX9_failing_10 (by decide) rfl rfl ?_
  refine R_iconst dX9_failing_12 (v := zI (b2i False)) (by rw [b2i_0 id]) ?_
  refine R_istore dX9_failing_13 (by decide) rfl rfl ?_
  refine R_iconst dX9_failing_15 (v := zI (b2i False)) (by rw [b2i_0 id]) ?_
  refine R_istore dX9_failing_16 (by decide) rfl rfl ?_
  refine R_iconst dX9_failing_18 (v := zI (0)) rfl ?_
  refine R_istore dX9_failing_19 (by decide) rfl rfl ?_
  refine At.dropS (L' := [some (.ref b), some (.int (zI (q))), some (.int (zI (σ (97 + 5 * q + 2)))), some (.int (zI (b2i (exS σ q 0)))), some (.int (zI (b2i (heS σ q 0)))), some (.int (zI (b2i (asS σ q 0)))), some (.int (zI (b2i (stS σ q 0)))), some (.int (zI (((0 : Nat) : Int)))), none, none]) ⟨rfl, rfl, rfl, rfl, rfl, rfl, rfl, rfl, trivial⟩ (lp_failing hI hq ho hO _ 0 (Nat.zero_add _) ?_)
  refine R_iload_n dX9_failing_226 rfl rfl ?_
  refine Z_if_eqB dX9_failing_227 (tgt := 234) (by decide) (fun c_227 => ?_) (fun c_227 => ?_)
  · skip
    refine R_iload dX9_failing_234 rfl ?_
    refine Z_if_eqB dX9_failing_236 (tgt := 243) (by decide) (fun c_236 => ?_) (fun c_236 => ?_)
    · skip
      refine R_iload dX9_failing_243 rfl ?_
      refine Z_if_eqB dX9_failing_245 (tgt := 252) (by decide) (fun c_245 => ?_) (fun c_245 => ?_)
      · skip
        refine R_iload dX9_failing_252 rfl ?_
        refine Z_if_eqB dX9_failing_254 (tgt := 261) (by decide) (fun c_254 => ?_) (fun c_254 => ?_)
        · skip
          refine R_iconst dX9_failing_261 (v := zI (0)) rfl ?_
          refine Z_retI dX9_failing_262 (rf_i rfl) ?_
          exact mQi hQ rfl (by unfold failF; first | (rw [pif_1 (by assumption)]; done) | (rw [pif_0 (by assumption), pif_1 (by assumption)]; done) | (rw [pif_0 (by assumption), pif_0 (by assumption), pif_1 (by assumption)]; done) | (rw [pif_0 (by assumption), pif_0 (by assumption), pif_0 (by assumption), pif_1 (by assumption)]; done) | (rw [pif_0 (by assumption), pif_0 (by assumption), pif_0 (by assumption), pif_0 (by assumption)]; done))
        · skip
          refine R_iconst dX9_failing_257 (v := zI (5)) rfl ?_
          refine R_goto dX9_failing_258 (tgt := 262) (by decide) ?_
          refine Z_retI dX9_failing_262 (rf_i rfl) ?_
          exact mQi hQ rfl (by unfold failF; first | (rw [pif_1 (by assumption)]; done) | (rw [pif_0 (by assumption), pif_1 (by assumption)]; done) | (rw [pif_0 (by assumption), pif_0 (by assumption), pif_1 (by assumption)]; done) | (rw [pif_0 (by assumption), pif_0 (by assumption), pif_0 (by assumption), pif_1 (by assumption)]; done) | (rw [pif_0 (by assumption), pif_0 (by assumption), pif_0 (by assumption), pif_0 (by assumption)]; done))
      · skip
        refine R_iconst dX9_failing_248 (v := zI (4)) rfl ?_
        refine R_goto dX9_failing_249 (tgt := 262) (by decide) ?_
        refine Z_retI dX9_failing_262 (rf_i rfl) ?_
        exact mQi hQ rfl (by unfold failF; first | (rw [pif_1 (by assumption)]; done) | (rw [pif_0 (by assumption), pif_1 (by assumption)]; done) | (rw [pif_0 (by assumption), pif_0 (by assumption), pif_1 (by assumption)]; done) | (rw [pif_0 (by assumption), pif_0 (by assumption), pif_0 (by assumption), pif_1 (by assumption)]; done) | (rw [pif_0 (by assumption), pif_0 (by assumption), pif_0 (by assumption), pif_0 (by assumption)]; done))
    · skip
      refine R_iconst dX9_failing_239 (v := zI (3)) rfl ?_
      refine R_goto dX9_failing_240 (tgt := 262) (by decide) ?_
      refine Z_retI dX9_failing_262 (rf_i rfl) ?_
      exact mQi hQ rfl (by unfold failF; first | (rw [pif_1 (by assumption)]; done) | (rw [pif_0 (by assumption), pif_1 (by assumption)]; done) | (rw [pif_0 (by assumption), pif_0 (by assumption), pif_1 (by assumption)]; done) | (rw [pif_0 (by assumption), pif_0 (by assumption), pif_0 (by assumption), pif_1 (by assumption)]; done) | (rw [pif_0 (by assumption), pif_0 (by assumption), pif_0 (by assumption), pif_0 (by assumption)]; done))
  · skip
    refine R_iconst dX9_failing_230 (v := zI (2)) rfl ?_
    refine R_goto dX9_failing_231 (tgt := 262) (by decide) ?_
    refine Z_retI dX9_failing_262 (rf_i rfl) ?_
    exact mQi hQ rfl (by unfold failF; first | (rw [pif_1 (by assumption)]; done) | (rw [pif_0 (by assumption), pif_1 (by assumption)]; done) | (rw [pif_0 (by assumption), pif_0 (by assumption), pif_1 (by assumption)]; done) | (rw [pif_0 (by assumption), pif_0 (by assumption), pif_0 (by assumption), pif_1 (by assumption)]; done) | (rw [pif_0 (by assumption), pif_0 (by assumption), pif_0 (by assumption), pif_0 (by assumption)]; done))

/-- what had failed ahead of the first round -/
def f0S (σ : St) : Nat → St
  | 0 => σ
  | n + 1 => us (f0S σ n) (710 + (n : Int)) (if f0S σ n (97 + 5 * (n : Int) + 2) = -1 then 1 else 0)
def o1S (σ : St) : Nat → St
  | 0 => σ
  | n + 1 => us (o1S σ n) (720 + (n : Int)) (o1S σ n (710 + (n : Int)))
noncomputable def rdS (σ : St) : Nat → St
  | 0 => σ
  | n + 1 => us (rdS σ n) (710 + (n : Int)) (if rdS σ n (720 + (n : Int)) = 0 then failF (rdS σ n) n else rdS σ n (720 + (n : Int)))
def moreS (σ : St) : Nat → Prop
  | 0 => False
  | n + 1 => moreS σ n ∨ ¬ rdS σ (n + 1) (710 + (n : Int)) = rdS σ (n + 1) (720 + (n : Int))
noncomputable abbrev roundF (σ : St) : St := rdS (o1S σ 4) 4
abbrev moreF (σ : St) : Prop := moreS (o1S σ 4) 4
noncomputable def forS (σ : St) : Nat → St
  | 0 => σ
  | k + 1 => @ite _ (moreF σ) (Classical.propDecidable _) (forS (roundF σ) k) (roundF σ)
def endS (σ : St) : Nat → Prop
  | 0 => False
  | k + 1 => moreF σ → endS (roundF σ) k
theorem f0S_out {σ : St} {k : Int} : ∀ n : Nat, k < 710 ∨ 710 + (n : Int) ≤ k → f0S σ n k = σ k
  | 0, _ => rfl
  | n + 1, h => by
    rw [f0S, us_ne (by omega)]
    exact f0S_out n (by omega)
theorem o1S_out {σ : St} {k : Int} : ∀ n : Nat, k < 720 ∨ 720 + (n : Int) ≤ k → o1S σ n k = σ k
  | 0, _ => rfl
  | n + 1, h => by
    rw [o1S, us_ne (by omega)]
    exact o1S_out n (by omega)
theorem rdS_out {σ : St} {k : Int} : ∀ n : Nat, k < 710 ∨ 710 + (n : Int) ≤ k → rdS σ n k = σ k
  | 0, _ => rfl
  | n + 1, h => by
    rw [rdS, us_ne (by omega)]
    exact rdS_out n (by omega)
theorem f0S_MI {σ : St} (hI : MI σ) : ∀ n : Nat, MI (f0S σ n)
  | 0 => hI
  | n + 1 => MI_free (f0S_MI hI n) (by omega) (by split <;> decide)
theorem o1S_MI {σ : St} (hI : MI σ) : ∀ n : Nat, MI (o1S σ n)
  | 0 => hI
  | n + 1 => MI_free (o1S_MI hI n) (by omega) ((o1S_MI hI n).1 _)
theorem rdS_MI {σ : St} (hI : MI σ) : ∀ n : Nat, MI (rdS σ n)
  | 0 => hI
  | n + 1 => MI_free (rdS_MI hI n) (by omega) (by
    split
    · have := failF_bd (rdS σ n) n
      exact ⟨by omega, by omega⟩
    · exact (rdS_MI hI n).1 _)
theorem f0S_at {σ : St} : ∀ (n : Nat) (c : Int), n ≤ 4 → 0 ≤ c ∧ c < n → f0S σ n (710 + c) = if σ (97 + 5 * c + 2) = -1 then 1 else 0
  | 0, c, _, h => by omega
  | n + 1, c, hn, h => by
    rw [f0S]
    by_cases e : c = n
    · subst e
      rw [us_eq, f0S_out n (by omega)]
    · rw [us_ne (by omega)]
      exact f0S_at n c (by omega) (by omega)
theorem o1S_at {σ : St} : ∀ (n : Nat) (c : Int), n ≤ 4 → 0 ≤ c ∧ c < n → o1S σ n (720 + c) = σ (710 + c)
  | 0, c, _, h => by omega
  | n + 1, c, hn, h => by
    rw [o1S]
    by_cases e : c = n
    · subst e
      rw [us_eq, o1S_out n (by omega)]
    · rw [us_ne (by omega)]
      exact o1S_at n c (by omega) (by omega)
theorem rdS_at {σ : St} : ∀ (n : Nat) (c : Int), n ≤ 4 → 0 ≤ c ∧ c < n → rdS σ n (710 + c) = if σ (720 + c) = 0 then failF (rdS σ c.toNat) c else σ (720 + c)
  | 0, c, _, h => by omega
  | n + 1, c, hn, h => by
    rw [rdS]
    by_cases e : c = n
    · subst e
      rw [us_eq, rdS_out n (by omega)]
      rfl
    · rw [us_ne (by omega)]
      exact rdS_at n c (by omega) (by omega)
/-- whoever has not failed has an order -/
abbrev JF (σ : St) : Prop := ∀ c : Int, 0 ≤ c ∧ c < 4 → σ (710 + c) = 0 → 0 ≤ σ (97 + 5 * c + 2)
abbrev JO (σ : St) : Prop := ∀ c : Int, 0 ≤ c ∧ c < 4 → σ (720 + c) = 0 → 0 ≤ σ (97 + 5 * c + 2)
theorem JF_f0 {σ : St} (hI : MI σ) : JF (f0S σ 4) := by
  intro c hc h
  have := hI.2.2.2.2.2.2.1 c hc
  rw [f0S_at 4 c (by omega) (by omega)] at h
  rw [f0S_out 4 (by omega)]
  split at h <;> omega
theorem JO_o1 {σ : St} (h : JF σ) : JO (o1S σ 4) := by
  intro c hc z
  rw [o1S_at 4 c (by omega) (by omega)] at z
  rw [o1S_out 4 (by omega)]
  exact h c hc z
theorem JO_rd {σ : St} (h : JO σ) (n : Nat) (hn : n ≤ 4) : JO (rdS σ n) := by
  intro c hc z
  rw [rdS_out n (by omega)] at z ⊢
  exact h c hc z
theorem JF_rd {σ : St} (h : JO σ) : JF (rdS σ 4) := by
  intro c hc z
  rw [rdS_out 4 (by omega)]
  rw [rdS_at 4 c (by omega) (by omega)] at z
  refine h c hc ?_
  split at z
  · assumption
  · exact z
theorem JF_round {σ : St} (h : JF σ) : JF (roundF σ) := JF_rd (JO_o1 h)
theorem round_MI {σ : St} (hI : MI σ) : MI (roundF σ) := rdS_MI (o1S_MI hI 4) 4

theorem lp_for0 {Ω : Wd} {d r : Nat} {Q : Hp → Out → Prop} {b : Nat} {h0 : Hp} {σ : St}  (hI : MI σ) : ∀ (k n : Nat), n + k = 4 → At Ω M_X9_foretells (d + 3) r Q 34 [some (.ref b), none, none] [] (mh b h0 (f0S σ 4)) → At Ω M_X9_foretells (d + 3) r Q 2 [some (.ref b), some (.int (zI (((n : Nat) : Int)))), none] [] (mh b h0 (f0S σ n)) := by
  intro k
  induction k with
  | zero =>
    intro n hn hX
    have hnN : n = 4 := by omega
    rw [hnN]
    refine R_iload_n dX9_foretells_2 rfl rfl ?_
    refine R_iconst dX9_foretells_3 (v := zI (4)) rfl ?_
    refine Z_icmp_ge dX9_foretells_4 (by first | exact hI.1 _ | assumption | exact hI1.1 _ | exact hI2.1 _ | exact ⟨by omega, by omega⟩) (by first | exact hI.1 _ | assumption | exact hI1.1 _ | exact hI2.1 _ | exact ⟨by omega, by omega⟩) (tgt := 34) (by decide) (fun c_4 => ?_) (fun c_4 => absurd c_4 (by omega))
    exact At.dropS (L' := [some (.ref b), none, none]) ⟨rfl, trivial⟩ hX
  | succ k ih =>
    intro n hn hX
    refine R_iload_n dX9_foretells_2 rfl rfl ?_
    refine R_iconst dX9_foretells_3 (v := zI (4)) rfl ?_
    refine Z_icmp_ge dX9_foretells_4 (by first | exact hI.1 _ | assumption | exact hI1.1 _ | exact hI2.1 _ | exact ⟨by omega, by omega⟩) (by first | exact hI.1 _ | assumption | exact hI1.1 _ | exact hI2.1 _ | exact ⟨by omega, by omega⟩) (tgt := 34) (by decide) (fun c_4 => absurd c_4 (by omega)) (fun c_4 => ?_)
    refine R_aload_n dX9_foretells_7 rfl rfl rfl ?_
    refine Zm_gf dX9_foretells_8 gf_X9_22 rfl ?_
    have hI1 := f0S_MI hI n
    refine R_iload_n dX9_foretells_11 rfl rfl ?_
    refine z_joinI (if f0S σ n (97 + 5 * ((n : Nat) : Int) + 2) = -1 then 1 else 0) 27 ?_ (fun jj_12 => ?_)
    · skip
      refine Zm_st5 dX9_foretells_27 (by omega) ?_
      refine Z_iinc dX9_foretells_28 rfl (by decide) rfl rfl ?_
      refine R_goto dX9_foretells_31 (tgt := 2) (by decide) ?_
      exact At.dropS (L' := [some (.ref b), some (.int (zI ((((n + 1) : Nat) : Int)))), none]) ⟨rfl, rfl, trivial⟩ (ih (n + 1) (by omega) hX)
    · skip
      refine R_aload_n dX9_foretells_12 rfl rfl rfl ?_
      refine R_iload_n dX9_foretells_13 rfl rfl ?_
      refine R_iconst dX9_foretells_14 (v := zI (2)) rfl ?_
      refine R_cV2 0 dX9_foretells_15 rfl cv_X9_53 mh_get0 rfl rfl (Nat.le_of_ble_eq_true rfl) (Nat.zero_le _) (sp_X9_of (by first | assumption | exact hI.1 _ | exact hI1.1 _ | exact hI2.1 _ | omega | (refine ⟨?_, ?_⟩ <;> omega)) (kq.v ?_))
      refine R_iconst dX9_foretells_18 (v := zI (-1)) rfl ?_
      refine Z_icmp_ne dX9_foretells_19 (by first | exact hI.1 _ | assumption | exact hI1.1 _ | exact hI2.1 _ | exact ⟨by omega, by omega⟩) (by first | exact hI.1 _ | assumption | exact hI1.1 _ | exact hI2.1 _ | exact ⟨by omega, by omega⟩) (tgt := 26) (by decide) (fun c_19 => ?_) (fun c_19 => ?_)
      · skip
        refine R_iconst dX9_foretells_26 (v := zI (0)) rfl ?_
        exact jj_12 _ (by first | rfl | (simp [*]; done) | omega | grind)
      · skip
        refine R_iconst dX9_foretells_22 (v := zI (1)) rfl ?_
        refine R_goto dX9_foretells_23 (tgt := 27) (by decide) ?_
        exact jj_12 _ (by first | rfl | (simp [*]; done) | omega | grind)

theorem lp_for1 {Ω : Wd} {d r : Nat} {Q : Hp → Out → Prop} {b : Nat} {h0 : Hp} {σ : St}  (hI : MI σ) : ∀ (k n : Nat), n + k = 4 → At Ω M_X9_foretells (d + 3) r Q 67 [some (.ref b), some (.int (zI (b2i False))), none] [] (mh b h0 (o1S σ 4)) → At Ω M_X9_foretells (d + 3) r Q 44 [some (.ref b), some (.int (zI (b2i False))), some (.int (zI (((n : Nat) : Int))))] [] (mh b h0 (o1S σ n)) := by
  intro k
  induction k with
  | zero =>
    intro n hn hX
    have hnN : n = 4 := by omega
    rw [hnN]
    refine R_iload_n dX9_foretells_44 rfl rfl ?_
    refine R_iconst dX9_foretells_45 (v := zI (4)) rfl ?_
    refine Z_icmp_ge dX9_foretells_46 (by first | exact hI.1 _ | assumption | exact hI1.1 _ | exact hI2.1 _ | exact ⟨by omega, by omega⟩) (by first | exact hI.1 _ | assumption | exact hI1.1 _ | exact hI2.1 _ | exact ⟨by omega, by omega⟩) (tgt := 67) (by decide) (fun c_46 => ?_) (fun c_46 => absurd c_46 (by omega))
    exact At.dropS (L' := [some (.ref b), some (.int (zI (b2i False))), none]) ⟨rfl, rfl, trivial⟩ hX
  | succ k ih =>
    intro n hn hX
    refine R_iload_n dX9_foretells_44 rfl rfl ?_
    refine R_iconst dX9_foretells_45 (v := zI (4)) rfl ?_
    refine Z_icmp_ge dX9_foretells_46 (by first | exact hI.1 _ | assumption | exact hI1.1 _ | exact hI2.1 _ | exact ⟨by omega, by omega⟩) (by first | exact hI.1 _ | assumption | exact hI1.1 _ | exact hI2.1 _ | exact ⟨by omega, by omega⟩) (tgt := 67) (by decide) (fun c_46 => absurd c_46 (by omega)) (fun c_46 => ?_)
    refine R_aload_n dX9_foretells_49 rfl rfl rfl ?_
    refine Zm_gf dX9_foretells_50 gf_X9_25 rfl ?_
    refine R_iload_n dX9_foretells_53 rfl rfl ?_
    refine R_aload_n dX9_foretells_54 rfl rfl rfl ?_
    refine Zm_gf dX9_foretells_55 gf_X9_22 rfl ?_
    refine R_iload_n dX9_foretells_58 rfl rfl ?_
    refine Zm_ld5 dX9_foretells_59 (by omega) ?_
    refine Zm_st6 dX9_foretells_60 (by omega) ?_
    refine Z_iinc dX9_foretells_61 rfl (by decide) rfl rfl ?_
    refine R_goto dX9_foretells_64 (tgt := 44) (by decide) ?_
    exact At.dropS (L' := [some (.ref b), some (.int (zI (b2i False))), some (.int (zI ((((n + 1) : Nat) : Int))))]) ⟨rfl, rfl, rfl, trivial⟩ (ih (n + 1) (by omega) hX)

theorem lp_for2 {Ω : Wd} {d r : Nat} {Q : Hp → Out → Prop} {b : Nat} {h0 : Hp} {σ : St}  (hI : MI σ) (hJ : JO σ) : ∀ (k n : Nat), n + k = 4 → At Ω M_X9_foretells (d + 3) r Q 134 [some (.ref b), some (.int (zI (b2i (moreS σ 4)))), none] [] (mh b h0 (rdS σ 4)) → At Ω M_X9_foretells (d + 3) r Q 69 [some (.ref b), some (.int (zI (b2i (moreS σ n)))), some (.int (zI (((n : Nat) : Int))))] [] (mh b h0 (rdS σ n)) := by
  intro k
  induction k with
  | zero =>
    intro n hn hX
    have hnN : n = 4 := by omega
    rw [hnN]
    refine R_iload_n dX9_foretells_69 rfl rfl ?_
    refine R_iconst dX9_foretells_70 (v := zI (4)) rfl ?_
    refine Z_icmp_ge dX9_foretells_71 (by first | exact hI.1 _ | assumption | exact hI1.1 _ | exact hI2.1 _ | exact ⟨by omega, by omega⟩) (by first | exact hI.1 _ | assumption | exact hI1.1 _ | exact hI2.1 _ | exact ⟨by omega, by omega⟩) (tgt := 134) (by decide) (fun c_71 => ?_) (fun c_71 => absurd c_71 (by omega))
    exact At.dropS (L' := [some (.ref b), some (.int (zI (b2i (moreS σ 4)))), none]) ⟨rfl, rfl, trivial⟩ hX
  | succ k ih =>
    intro n hn hX
    refine R_iload_n dX9_foretells_69 rfl rfl ?_
    refine R_iconst dX9_foretells_70 (v := zI (4)) rfl ?_
    refine Z_icmp_ge dX9_foretells_71 (by first | exact hI.1 _ | assumption | exact hI1.1 _ | exact hI2.1 _ | exact ⟨by omega, by omega⟩) (by first | exact hI.1 _ | assumption | exact hI1.1 _ | exact hI2.1 _ | exact ⟨by omega, by omega⟩) (tgt := 134) (by decide) (fun c_71 => absurd c_71 (by omega)) (fun c_71 => ?_)
    have hI1 := rdS_MI hI n
    have hJ1 := JO_rd hJ n (by omega)
    have hI2 := rdS_MI hI (n + 1)
    refine R_aload_n dX9_foretells_74 rfl rfl rfl ?_
    refine Zm_gf dX9_foretells_75 gf_X9_22 rfl ?_
    refine R_iload_n dX9_foretells_78 rfl rfl ?_
    refine z_joinI (if rdS σ n (720 + ((n : Nat) : Int)) = 0 then failF (rdS σ n) ((n : Nat) : Int) else rdS σ n (720 + ((n : Nat) : Int))) 102 ?_ (fun jj_79 => ?_)
    · skip
      refine Zm_st5 dX9_foretells_102 (by omega) ?_
      show At Ω _ _ _ _ _ _ _ (mh b h0 (rdS σ (n + 1)))
      refine z_joinB (moreS σ n ∨ ¬ rdS σ (n + 1) (710 + ((n : Nat) : Int)) = rdS σ (n + 1) (720 + ((n : Nat) : Int))) 127 ?_ (fun jt_103 jf_103 => ?_)
      · skip
        refine R_istore_n dX9_foretells_127 rfl (by decide) rfl rfl ?_
        refine Z_iinc dX9_foretells_128 rfl (by decide) rfl rfl ?_
        refine R_goto dX9_foretells_131 (tgt := 69) (by decide) ?_
        exact At.dropS (L' := [some (.ref b), some (.int (zI (b2i (moreS σ (n + 1))))), some (.int (zI ((((n + 1) : Nat) : Int))))]) ⟨rfl, rfl, rfl, trivial⟩ (ih (n + 1) (by omega) hX)
      · skip
        refine R_iload_n dX9_foretells_103 rfl rfl ?_
        refine Z_if_neB dX9_foretells_104 (tgt := 122) (by decide) (fun c_104 => ?_) (fun c_104 => ?_)
        · skip
          refine R_iconst dX9_foretells_122 (v := zI (1)) rfl ?_
          refine R_goto dX9_foretells_123 (tgt := 127) (by decide) ?_
          exact jt_103 (by first | assumption | omega | grind | (simp [*]; done) | (simp_all; done))
        · skip
          refine R_aload_n dX9_foretells_107 rfl rfl rfl ?_
          refine Zm_gf dX9_foretells_108 gf_X9_22 rfl ?_
          refine R_iload_n dX9_foretells_111 rfl rfl ?_
          refine Zm_ld5 dX9_foretells_112 (by omega) ?_
          refine R_aload_n dX9_foretells_113 rfl rfl rfl ?_
          refine Zm_gf dX9_foretells_114 gf_X9_25 rfl ?_
          refine R_iload_n dX9_foretells_117 rfl rfl ?_
          refine Zm_ld6 dX9_foretells_118 (by omega) ?_
          refine Z_icmp_eq dX9_foretells_119 (hI2.1 _) (hI2.1 _) (tgt := 126) (by decide) (fun c_119 => ?_) (fun c_119 => ?_)
          · skip
            refine R_iconst dX9_foretells_126 (v := zI (0)) rfl ?_
            exact jf_103 (by first | assumption | omega | grind | (simp [*]; done) | (simp_all; done))
          · skip
            refine R_iconst dX9_foretells_122 (v := zI (1)) rfl ?_
            refine R_goto dX9_foretells_123 (tgt := 127) (by decide) ?_
            exact jt_103 (by first | assumption | omega | grind | (simp [*]; done) | (simp_all; done))
    · skip
      refine R_aload_n dX9_foretells_79 rfl rfl rfl ?_
      refine Zm_gf dX9_foretells_80 gf_X9_25 rfl ?_
      refine R_iload_n dX9_foretells_83 rfl rfl ?_
      refine Zm_ld6 dX9_foretells_84 (by omega) ?_
      refine Z_if_ne dX9_foretells_85 (hI1.1 _) (tgt := 96) (by decide) (fun c_85 => ?_) (fun c_85 => ?_)
      · skip
        refine R_aload_n dX9_foretells_96 rfl rfl rfl ?_
        refine Zm_gf dX9_foretells_97 gf_X9_25 rfl ?_
        refine R_iload_n dX9_foretells_100 rfl rfl ?_
        refine Zm_ld6 dX9_foretells_101 (by omega) ?_
        exact jj_79 _ (by first | rfl | (simp [*]; done) | omega | grind)
      · skip
        refine R_aload_n dX9_foretells_88 rfl rfl rfl ?_
        refine R_iload_n dX9_foretells_89 rfl rfl ?_
        refine R_cV1 0 dX9_foretells_90 rfl cv_X9_97 mh_get0 rfl rfl (Nat.le_of_ble_eq_true rfl) (Nat.zero_le _) (sp_X9_failing hI1 (by omega) (hJ1 _ (by omega) c_85) hJ1 (kq.v ?_))
        refine R_goto dX9_foretells_93 (tgt := 102) (by decide) ?_
        exact jj_79 _ (by first | rfl | (simp [*]; done) | omega | grind)

theorem lp_for3 {Ω : Wd} {d r : Nat} {Q : Hp → Out → Prop} {b : Nat} {h0 : Hp} : ∀ (k : Nat) (σ : St), MI σ → JF σ → endS σ k → At Ω M_X9_foretells (d + 3) r Q 137 [some (.ref b), none, none] [] (mh b h0 (forS σ k)) → At Ω M_X9_foretells (d + 3) r Q 40 [some (.ref b), none, none] [] (mh b h0 σ) := by
  intro k
  induction k with
  | zero => intro σ _ _ hE; exact hE.elim
  | succ k ih =>
    intro σ hI hJ hE hX
    have hI1 := o1S_MI hI 4
    have hJ1 := JO_o1 hJ
    refine R_iconst dX9_foretells_40 (v := zI (b2i False)) (by rw [b2i_0 id]) ?_
    refine R_istore_n dX9_foretells_41 rfl (by decide) rfl rfl ?_
    refine R_iconst dX9_foretells_42 (v := zI (0)) rfl ?_
    refine R_istore_n dX9_foretells_43 rfl (by decide) rfl rfl ?_
    refine At.dropS (L' := [some (.ref b), some (.int (zI (b2i False))), some (.int (zI (((0 : Nat) : Int))))]) ⟨rfl, rfl, rfl, trivial⟩ (lp_for1 hI _ 0 (Nat.zero_add _) ?_)
    refine R_iconst dX9_foretells_67 (v := zI 0) rfl ?_
    refine R_istore_n dX9_foretells_68 rfl (by decide) rfl rfl ?_
    refine At.dropS (L' := [some (.ref b), some (.int (zI (b2i (moreS σ 0)))), some (.int (zI (((0 : Nat) : Int))))]) ⟨rfl, rfl, rfl, trivial⟩ (lp_for2 hI1 hJ1 _ 0 (Nat.zero_add _) ?_)
    refine R_goto dX9_foretells_134 (tgt := 36) (by decide) ?_
    refine R_iload_n dX9_foretells_36 rfl rfl ?_
    refine Z_if_eqB dX9_foretells_37 (tgt := 137) (by decide) (fun c_37 => ?_) (fun c_37 => ?_)
    · skip
      refine At.dropS [some (.ref b), none, none] ⟨rfl, trivial⟩ ?_
      unfold forS at hX
      rw [if_neg c_37] at hX
      exact hX
    · skip
      refine At.dropS [some (.ref b), none, none] ⟨rfl, trivial⟩ (ih _ (round_MI hI) (JF_round hJ) (hE c_37) ?_)
      unfold forS at hX
      rw [if_pos c_37] at hX
      exact hX

noncomputable abbrev forF (σ : St) : St := forS (f0S σ 4) 5

theorem sp_X9_foretells {Ω : Wd} {d r : Nat} {Q : Hp → Out → Prop} {b : Nat} {h0 : Hp} {σ : St} (hI : MI σ) (hE : endS (f0S σ 4) 5) (hQ : Q (mh b h0 (forF σ)) (.inl none)) : Ok Ω M_X9_foretells (d + 3) r [.ref b] (mh b h0 (σ)) Q := by
  refine Ok.of (by decide) rfl (Nat.le_of_ble_eq_true rfl) rfl ?_
  refine R_iconst dX9_foretells_0 (v := zI (0)) rfl ?_
  refine R_istore_n dX9_foretells_1 rfl (by decide) rfl rfl ?_
  refine At.dropS (L' := [some (.ref b), some (.int (zI (((0 : Nat) : Int)))), none]) ⟨rfl, rfl, trivial⟩ (lp_for0 hI _ 0 (Nat.zero_add _) ?_)
  refine R_iconst dX9_foretells_34 (v := zI (1)) rfl ?_
  refine R_istore_n dX9_foretells_35 rfl (by decide) rfl rfl ?_
  refine R_iload_n dX9_foretells_36 rfl rfl ?_
  refine Z_if_eq dX9_foretells_37 (by first | exact hI.1 _ | assumption | exact hI1.1 _ | exact hI2.1 _ | exact ⟨by omega, by omega⟩) (tgt := 137) (by decide) (fun c_37 => absurd c_37 (by decide)) (fun c_37 => ?_)
  refine At.dropS [some (.ref b), none, none] ⟨rfl, trivial⟩ (lp_for3 5 _ (f0S_MI hI 4) (JF_f0 hI) hE ?_)
  exact Z_retV dX9_foretells_137 (rf_v rfl) hQ


