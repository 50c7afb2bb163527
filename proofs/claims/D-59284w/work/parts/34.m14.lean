/-! the model: doing parts, play -/
set_option maxRecDepth 100000
theorem part_look {Ω : Wd} {d r : Nat} {Q : Hp → Out → Prop} {b : Nat} {h0 : Hp} {σ : St} {a : Int} (hI : MI σ) (hb : bufP σ) (ha : 0 ≤ a ∧ a ≤ 800) (h1 : ¬ okL (ltF σ a) → Q (mh b h0 (ps σ a 1)) (.inl (some (.int (zI 1))))) (h2 : okL (ltF σ a) → Q (mh b h0 (ps σ (p4A σ a (ltF σ a)) (p4W σ a (ltF σ a)))) (.inl (some (.int (zI 1))))) : Ok Ω M_X9_part (d + 5) r [.ref b, .int (zI 0)] (mh b h0 (ps σ a 0)) Q := by
  refine Ok.of (by decide) rfl (Nat.le_of_ble_eq_true rfl) rfl ?_
  refine part_in hI hb ha h1 (fun hok => ?_)
  refine R_iload_n dX9_part_165 rfl rfl ?_
  refine Z_if_ne dX9_part_166 (by first | exact hI.1 _ | assumption | exact hI1.1 _ | exact hI2.1 _ | exact ⟨by omega, by omega⟩) (tgt := 171) (by decide) (fun c_166 => absurd c_166 (by decide)) (fun c_166 => ?_)
  refine R_iconst dX9_part_169 (v := zI (1)) rfl ?_
  refine Z_retI dX9_part_170 (rf01 rfl (by omega)) ?_
  exact h2 hok

/-- a part can be done -/
def canX (τ : St) (l q k : Int) : Prop := l = 115 ∨ (l = 114 ∧ overF τ = 0) ∨ (l = 116 ∧ (0 ≤ k ∧ k < τ 0)) ∨ (l = 111 ∧ (0 ≤ k ∧ k < τ 0) ∧ noOrdF τ q k = 0)
/-- a part is done -/
noncomputable def exF (τ : St) (l q k : Int) : St := if l = 116 then tglF τ k else if l = 114 then turnF τ else us τ (97 + 5 * q + 2) (if l = 111 then k else -1)

theorem part_do {Ω : Wd} {d r : Nat} {Q : Hp → Out → Prop} {b : Nat} {h0 : Hp} {τ : St} {l q k : Int} (hl : okL l) (hI : MI τ) (hq : 0 ≤ q ∧ q < 4) (hk : rg k) (hE : l = 114 → overF τ = 0 → turnE τ) (h1 : ¬ canX τ l q k → Q (mh b h0 τ) (.inl (some (.int (zI 0))))) (h2 : canX τ l q k → Q (mh b h0 (exF τ l q k)) (.inl (some (.int (zI 1))))) : At Ω M_X9_part (d + 5) r Q 165 [some (.ref b), some (.int (zI 1)), some (.int (zI l)), some (.int (zI q)), none, some (.int (zI k)), none, none, none] [] (mh b h0 τ) := by
  have h00 := hI.2.1
  have ho := overF_bd τ
  have hno : 0 ≤ noOrdF τ q k ∧ noOrdF τ q k ≤ 4 := by unfold noOrdF; (repeat' split) <;> omega
  rcases hl with hl | hl | hl | hl <;> subst hl
  · have e : exF τ 111 q k = us τ (97 + 5 * q + 2) k := by unfold exF; rw [if_neg (by decide), if_neg (by decide), if_pos rfl]
    rw [e] at h2
    have ec : canX τ 111 q k ↔ (0 ≤ k ∧ k < τ 0) ∧ noOrdF τ q k = 0 := by unfold canX; omega
    refine R_iload_n dX9_part_165 rfl rfl ?_
    refine Z_if_ne dX9_part_166 (by first | exact hI.1 _ | assumption | exact hI1.1 _ | exact hI2.1 _ | exact ⟨by omega, by omega⟩) (tgt := 171) (by decide) (fun c_166 => ?_) (fun c_166 => absurd c_166 (by decide))
    refine R_iload_n dX9_part_171 rfl rfl ?_
    refine R_bipush dX9_part_172 (v := zI (115)) rfl ?_
    refine Z_icmp_eq dX9_part_174 (by first | exact hI.1 _ | assumption | exact hI1.1 _ | exact hI2.1 _ | exact ⟨by omega, by omega⟩) (by first | exact hI.1 _ | assumption | exact hI1.1 _ | exact hI2.1 _ | exact ⟨by omega, by omega⟩) (tgt := 218) (by decide) (fun c_174 => absurd c_174 (by decide)) (fun c_174 => ?_)
    refine R_iload_n dX9_part_177 rfl rfl ?_
    refine R_bipush dX9_part_178 (v := zI (114)) rfl ?_
    refine Z_icmp_ne dX9_part_180 (by first | exact hI.1 _ | assumption | exact hI1.1 _ | exact hI2.1 _ | exact ⟨by omega, by omega⟩) (by first | exact hI.1 _ | assumption | exact hI1.1 _ | exact hI2.1 _ | exact ⟨by omega, by omega⟩) (tgt := 193) (by decide) (fun c_180 => ?_) (fun c_180 => absurd c_180 (by decide))
    refine z_joinB (canX τ 111 q k) 223 ?_ (fun jt_193 jf_193 => ?_)
    · skip
      refine R_istore dX9_part_223 (by decide) rfl rfl ?_
      refine R_iload dX9_part_225 rfl ?_
      refine Z_if_eqB dX9_part_227 (tgt := 298) (by decide) (fun c_227 => ?_) (fun c_227 => ?_)
      · skip
        refine R_iload dX9_part_298 rfl ?_
        refine Z_retI dX9_part_300 (rfb rfl) ?_
        first | (rw [b2i_0 c_227]; exact h1 c_227) | (rw [b2i_1 c_227]; exact h2 c_227)
      · skip
        refine R_iload_n dX9_part_230 rfl rfl ?_
        refine R_bipush dX9_part_231 (v := zI (116)) rfl ?_
        refine Z_icmp_ne dX9_part_233 (by first | exact hI.1 _ | assumption | exact hI1.1 _ | exact hI2.1 _ | exact ⟨by omega, by omega⟩) (by first | exact hI.1 _ | assumption | exact hI1.1 _ | exact hI2.1 _ | exact ⟨by omega, by omega⟩) (tgt := 249) (by decide) (fun c_233 => ?_) (fun c_233 => absurd c_233 (by decide))
        refine R_iconst dX9_part_249 (v := zI (0)) rfl ?_
        refine R_istore dX9_part_250 (by decide) rfl rfl ?_
        refine R_iload_n dX9_part_252 rfl rfl ?_
        refine R_bipush dX9_part_253 (v := zI (114)) rfl ?_
        refine Z_icmp_ne dX9_part_255 (by first | exact hI.1 _ | assumption | exact hI1.1 _ | exact hI2.1 _ | exact ⟨by omega, by omega⟩) (by first | exact hI.1 _ | assumption | exact hI1.1 _ | exact hI2.1 _ | exact ⟨by omega, by omega⟩) (tgt := 265) (by decide) (fun c_255 => ?_) (fun c_255 => absurd c_255 (by decide))
        refine R_iconst dX9_part_265 (v := zI (0)) rfl ?_
        refine R_istore dX9_part_266 (by decide) rfl rfl ?_
        refine R_iload_n dX9_part_268 rfl rfl ?_
        refine R_bipush dX9_part_269 (v := zI (111)) rfl ?_
        refine Z_icmp_eq dX9_part_271 (by first | exact hI.1 _ | assumption | exact hI1.1 _ | exact hI2.1 _ | exact ⟨by omega, by omega⟩) (by first | exact hI.1 _ | assumption | exact hI1.1 _ | exact hI2.1 _ | exact ⟨by omega, by omega⟩) (tgt := 280) (by decide) (fun c_271 => ?_) (fun c_271 => absurd c_271 (by decide))
        refine R_aload_n dX9_part_280 rfl rfl rfl ?_
        refine R_iload_n dX9_part_281 rfl rfl ?_
        refine R_iconst dX9_part_282 (v := zI (2)) rfl ?_
        refine R_iload_n dX9_part_283 rfl rfl ?_
        refine R_bipush dX9_part_284 (v := zI (111)) rfl ?_
        refine Z_icmp_ne dX9_part_286 (by first | exact hI.1 _ | assumption | exact hI1.1 _ | exact hI2.1 _ | exact ⟨by omega, by omega⟩) (by first | exact hI.1 _ | assumption | exact hI1.1 _ | exact hI2.1 _ | exact ⟨by omega, by omega⟩) (tgt := 294) (by decide) (fun c_286 => absurd c_286 (by decide)) (fun c_286 => ?_)
        refine R_iload dX9_part_289 rfl ?_
        refine R_goto dX9_part_291 (tgt := 295) (by decide) ?_
        refine R_cV3 0 dX9_part_295 rfl cv_X9_31 mh_get0 rfl rfl (Nat.le_of_ble_eq_true rfl) (Nat.zero_le _) (sp_X9_lay (by first | assumption | exact hI.1 _ | exact hI1.1 _ | exact hI2.1 _ | omega | (refine ⟨?_, ?_⟩ <;> omega)) (kq.n ?_))
        refine R_iload dX9_part_298 rfl ?_
        refine Z_retI dX9_part_300 (rfb rfl) ?_
        first | (rw [b2i_0 c_227]; exact h1 c_227) | (rw [b2i_1 c_227]; exact h2 c_227)
    · skip
      refine R_aload_n dX9_part_193 rfl rfl rfl ?_
      refine R_iload dX9_part_194 rfl ?_
      refine R_cV1 0 dX9_part_196 rfl cv_X9_128 mh_get0 rfl rfl (Nat.le_of_ble_eq_true rfl) (Nat.zero_le _) (sp_X9_isStreet (by first | assumption | exact hI.1 _ | exact hI1.1 _ | exact hI2.1 _ | omega | (refine ⟨?_, ?_⟩ <;> omega)) (by first | assumption | exact hI.1 _ | exact hI1.1 _ | exact hI2.1 _ | omega | (refine ⟨?_, ?_⟩ <;> omega)) (kq.v ?_))
      refine Z_if_eqB dX9_part_199 (tgt := 222) (by decide) (fun c_199 => ?_) (fun c_199 => ?_)
      · skip
        refine R_iconst dX9_part_222 (v := zI (0)) rfl ?_
        exact jf_193 (by first | exact ec.mpr ⟨by omega, by omega⟩ | exact fun z => absurd (ec.mp z).1 (by omega) | exact fun z => absurd (ec.mp z).2 (by omega))
      · skip
        refine R_iload_n dX9_part_202 rfl rfl ?_
        refine R_bipush dX9_part_203 (v := zI (116)) rfl ?_
        refine Z_icmp_eq dX9_part_205 (by first | exact hI.1 _ | assumption | exact hI1.1 _ | exact hI2.1 _ | exact ⟨by omega, by omega⟩) (by first | exact hI.1 _ | assumption | exact hI1.1 _ | exact hI2.1 _ | exact ⟨by omega, by omega⟩) (tgt := 218) (by decide) (fun c_205 => absurd c_205 (by decide)) (fun c_205 => ?_)
        refine R_aload_n dX9_part_208 rfl rfl rfl ?_
        refine R_iload_n dX9_part_209 rfl rfl ?_
        refine R_iload dX9_part_210 rfl ?_
        refine R_cV2 0 dX9_part_212 rfl cv_X9_140 mh_get0 rfl rfl (Nat.le_of_ble_eq_true rfl) (Nat.zero_le _) (sp_X9_noOrder (by first | assumption | exact hI.1 _ | exact hI1.1 _ | exact hI2.1 _ | omega | (refine ⟨?_, ?_⟩ <;> omega)) (by first | assumption | exact hI.1 _ | exact hI1.1 _ | exact hI2.1 _ | omega | (refine ⟨?_, ?_⟩ <;> omega)) (by first | assumption | exact hI.1 _ | exact hI1.1 _ | exact hI2.1 _ | omega | (refine ⟨?_, ?_⟩ <;> omega)) (kq.v ?_))
        refine Z_if_ne dX9_part_215 (by first | exact hI.1 _ | assumption | exact hI1.1 _ | exact hI2.1 _ | exact ⟨by omega, by omega⟩) (tgt := 222) (by decide) (fun c_215 => ?_) (fun c_215 => ?_)
        · skip
          refine R_iconst dX9_part_222 (v := zI (0)) rfl ?_
          exact jf_193 (by first | exact ec.mpr ⟨by omega, by omega⟩ | exact fun z => absurd (ec.mp z).1 (by omega) | exact fun z => absurd (ec.mp z).2 (by omega))
        · skip
          refine R_iconst dX9_part_218 (v := zI (1)) rfl ?_
          refine R_goto dX9_part_219 (tgt := 223) (by decide) ?_
          exact jt_193 (by first | exact ec.mpr ⟨by omega, by omega⟩ | exact fun z => absurd (ec.mp z).1 (by omega) | exact fun z => absurd (ec.mp z).2 (by omega))
  · have e : exF τ 115 q k = us τ (97 + 5 * q + 2) (-1) := by unfold exF; rw [if_neg (by decide), if_neg (by decide), if_neg (by decide)]
    rw [e] at h2
    have ec : canX τ 115 q k := Or.inl rfl
    refine R_iload_n dX9_part_165 rfl rfl ?_
    refine Z_if_ne dX9_part_166 (by first | exact hI.1 _ | assumption | exact hI1.1 _ | exact hI2.1 _ | exact ⟨by omega, by omega⟩) (tgt := 171) (by decide) (fun c_166 => ?_) (fun c_166 => absurd c_166 (by decide))
    refine R_iload_n dX9_part_171 rfl rfl ?_
    refine R_bipush dX9_part_172 (v := zI (115)) rfl ?_
    refine Z_icmp_eq dX9_part_174 (by first | exact hI.1 _ | assumption | exact hI1.1 _ | exact hI2.1 _ | exact ⟨by omega, by omega⟩) (by first | exact hI.1 _ | assumption | exact hI1.1 _ | exact hI2.1 _ | exact ⟨by omega, by omega⟩) (tgt := 218) (by decide) (fun c_174 => ?_) (fun c_174 => absurd c_174 (by decide))
    refine R_iconst dX9_part_218 (v := zI (1)) rfl ?_
    refine R_goto dX9_part_219 (tgt := 223) (by decide) ?_
    refine R_istore dX9_part_223 (by decide) rfl rfl ?_
    refine R_iload dX9_part_225 rfl ?_
    refine Z_if_eq dX9_part_227 (by first | exact hI.1 _ | assumption | exact hI1.1 _ | exact hI2.1 _ | exact ⟨by omega, by omega⟩) (tgt := 298) (by decide) (fun c_227 => absurd c_227 (by decide)) (fun c_227 => ?_)
    refine R_iload_n dX9_part_230 rfl rfl ?_
    refine R_bipush dX9_part_231 (v := zI (116)) rfl ?_
    refine Z_icmp_ne dX9_part_233 (by first | exact hI.1 _ | assumption | exact hI1.1 _ | exact hI2.1 _ | exact ⟨by omega, by omega⟩) (by first | exact hI.1 _ | assumption | exact hI1.1 _ | exact hI2.1 _ | exact ⟨by omega, by omega⟩) (tgt := 249) (by decide) (fun c_233 => ?_) (fun c_233 => absurd c_233 (by decide))
    refine R_iconst dX9_part_249 (v := zI (0)) rfl ?_
    refine R_istore dX9_part_250 (by decide) rfl rfl ?_
    refine R_iload_n dX9_part_252 rfl rfl ?_
    refine R_bipush dX9_part_253 (v := zI (114)) rfl ?_
    refine Z_icmp_ne dX9_part_255 (by first | exact hI.1 _ | assumption | exact hI1.1 _ | exact hI2.1 _ | exact ⟨by omega, by omega⟩) (by first | exact hI.1 _ | assumption | exact hI1.1 _ | exact hI2.1 _ | exact ⟨by omega, by omega⟩) (tgt := 265) (by decide) (fun c_255 => ?_) (fun c_255 => absurd c_255 (by decide))
    refine R_iconst dX9_part_265 (v := zI (0)) rfl ?_
    refine R_istore dX9_part_266 (by decide) rfl rfl ?_
    refine R_iload_n dX9_part_268 rfl rfl ?_
    refine R_bipush dX9_part_269 (v := zI (111)) rfl ?_
    refine Z_icmp_eq dX9_part_271 (by first | exact hI.1 _ | assumption | exact hI1.1 _ | exact hI2.1 _ | exact ⟨by omega, by omega⟩) (by first | exact hI.1 _ | assumption | exact hI1.1 _ | exact hI2.1 _ | exact ⟨by omega, by omega⟩) (tgt := 280) (by decide) (fun c_271 => absurd c_271 (by decide)) (fun c_271 => ?_)
    refine R_iload_n dX9_part_274 rfl rfl ?_
    refine R_bipush dX9_part_275 (v := zI (115)) rfl ?_
    refine Z_icmp_ne dX9_part_277 (by first | exact hI.1 _ | assumption | exact hI1.1 _ | exact hI2.1 _ | exact ⟨by omega, by omega⟩) (by first | exact hI.1 _ | assumption | exact hI1.1 _ | exact hI2.1 _ | exact ⟨by omega, by omega⟩) (tgt := 298) (by decide) (fun c_277 => absurd c_277 (by decide)) (fun c_277 => ?_)
    refine R_aload_n dX9_part_280 rfl rfl rfl ?_
    refine R_iload_n dX9_part_281 rfl rfl ?_
    refine R_iconst dX9_part_282 (v := zI (2)) rfl ?_
    refine R_iload_n dX9_part_283 rfl rfl ?_
    refine R_bipush dX9_part_284 (v := zI (111)) rfl ?_
    refine Z_icmp_ne dX9_part_286 (by first | exact hI.1 _ | assumption | exact hI1.1 _ | exact hI2.1 _ | exact ⟨by omega, by omega⟩) (by first | exact hI.1 _ | assumption | exact hI1.1 _ | exact hI2.1 _ | exact ⟨by omega, by omega⟩) (tgt := 294) (by decide) (fun c_286 => ?_) (fun c_286 => absurd c_286 (by decide))
    refine R_iconst dX9_part_294 (v := zI (-1)) rfl ?_
    refine R_cV3 0 dX9_part_295 rfl cv_X9_31 mh_get0 rfl rfl (Nat.le_of_ble_eq_true rfl) (Nat.zero_le _) (sp_X9_lay (by first | assumption | exact hI.1 _ | exact hI1.1 _ | exact hI2.1 _ | omega | (refine ⟨?_, ?_⟩ <;> omega)) (kq.n ?_))
    refine R_iload dX9_part_298 rfl ?_
    refine Z_retI dX9_part_300 (rf01 rfl (by omega)) ?_
    exact h2 ec
  · have e : exF τ 116 q k = tglF τ k := by unfold exF; rw [if_pos rfl]
    rw [e] at h2
    have ec : canX τ 116 q k ↔ (0 ≤ k ∧ k < τ 0) := by unfold canX; omega
    refine R_iload_n dX9_part_165 rfl rfl ?_
    refine Z_if_ne dX9_part_166 (by first | exact hI.1 _ | assumption | exact hI1.1 _ | exact hI2.1 _ | exact ⟨by omega, by omega⟩) (tgt := 171) (by decide) (fun c_166 => ?_) (fun c_166 => absurd c_166 (by decide))
    refine R_iload_n dX9_part_171 rfl rfl ?_
    refine R_bipush dX9_part_172 (v := zI (115)) rfl ?_
    refine Z_icmp_eq dX9_part_174 (by first | exact hI.1 _ | assumption | exact hI1.1 _ | exact hI2.1 _ | exact ⟨by omega, by omega⟩) (by first | exact hI.1 _ | assumption | exact hI1.1 _ | exact hI2.1 _ | exact ⟨by omega, by omega⟩) (tgt := 218) (by decide) (fun c_174 => absurd c_174 (by decide)) (fun c_174 => ?_)
    refine R_iload_n dX9_part_177 rfl rfl ?_
    refine R_bipush dX9_part_178 (v := zI (114)) rfl ?_
    refine Z_icmp_ne dX9_part_180 (by first | exact hI.1 _ | assumption | exact hI1.1 _ | exact hI2.1 _ | exact ⟨by omega, by omega⟩) (by first | exact hI.1 _ | assumption | exact hI1.1 _ | exact hI2.1 _ | exact ⟨by omega, by omega⟩) (tgt := 193) (by decide) (fun c_180 => ?_) (fun c_180 => absurd c_180 (by decide))
    refine z_joinB (canX τ 116 q k) 223 ?_ (fun jt_193 jf_193 => ?_)
    · skip
      refine R_istore dX9_part_223 (by decide) rfl rfl ?_
      refine R_iload dX9_part_225 rfl ?_
      refine Z_if_eqB dX9_part_227 (tgt := 298) (by decide) (fun c_227 => ?_) (fun c_227 => ?_)
      · skip
        refine R_iload dX9_part_298 rfl ?_
        refine Z_retI dX9_part_300 (rfb rfl) ?_
        first | (rw [b2i_0 c_227]; exact h1 c_227) | (rw [b2i_1 c_227]; exact h2 c_227)
      · skip
        refine R_iload_n dX9_part_230 rfl rfl ?_
        refine R_bipush dX9_part_231 (v := zI (116)) rfl ?_
        refine Z_icmp_ne dX9_part_233 (by first | exact hI.1 _ | assumption | exact hI1.1 _ | exact hI2.1 _ | exact ⟨by omega, by omega⟩) (by first | exact hI.1 _ | assumption | exact hI1.1 _ | exact hI2.1 _ | exact ⟨by omega, by omega⟩) (tgt := 249) (by decide) (fun c_233 => absurd c_233 (by decide)) (fun c_233 => ?_)
        refine R_aload_n dX9_part_236 rfl rfl rfl ?_
        refine R_iload dX9_part_237 rfl ?_
        refine R_cV1 0 dX9_part_239 rfl cv_X9_131 mh_get0 rfl rfl (Nat.le_of_ble_eq_true rfl) (Nat.zero_le _) (sp_X9_toggles hI (by first | exact ec.mp c_227 | omega) (kq.v ?_))
        refine Z_if_eqB dX9_part_242 (tgt := 249) (by decide) (fun c_242 => ?_) (fun c_242 => ?_)
        · skip
          refine R_iconst dX9_part_249 (v := zI (0)) rfl ?_
          refine R_istore dX9_part_250 (by decide) rfl rfl ?_
          refine R_iload_n dX9_part_252 rfl rfl ?_
          refine R_bipush dX9_part_253 (v := zI (114)) rfl ?_
          refine Z_icmp_ne dX9_part_255 (by first | exact hI.1 _ | assumption | exact hI1.1 _ | exact hI2.1 _ | exact ⟨by omega, by omega⟩) (by first | exact hI.1 _ | assumption | exact hI1.1 _ | exact hI2.1 _ | exact ⟨by omega, by omega⟩) (tgt := 265) (by decide) (fun c_255 => ?_) (fun c_255 => absurd c_255 (by decide))
          refine R_iconst dX9_part_265 (v := zI (0)) rfl ?_
          refine R_istore dX9_part_266 (by decide) rfl rfl ?_
          refine R_iload_n dX9_part_268 rfl rfl ?_
          refine R_bipush dX9_part_269 (v := zI (111)) rfl ?_
          refine Z_icmp_eq dX9_part_271 (by first | exact hI.1 _ | assumption | exact hI1.1 _ | exact hI2.1 _ | exact ⟨by omega, by omega⟩) (by first | exact hI.1 _ | assumption | exact hI1.1 _ | exact hI2.1 _ | exact ⟨by omega, by omega⟩) (tgt := 280) (by decide) (fun c_271 => absurd c_271 (by decide)) (fun c_271 => ?_)
          refine R_iload_n dX9_part_274 rfl rfl ?_
          refine R_bipush dX9_part_275 (v := zI (115)) rfl ?_
          refine Z_icmp_ne dX9_part_277 (by first | exact hI.1 _ | assumption | exact hI1.1 _ | exact hI2.1 _ | exact ⟨by omega, by omega⟩) (by first | exact hI.1 _ | assumption | exact hI1.1 _ | exact hI2.1 _ | exact ⟨by omega, by omega⟩) (tgt := 298) (by decide) (fun c_277 => ?_) (fun c_277 => absurd c_277 (by decide))
          refine R_iload dX9_part_298 rfl ?_
          refine Z_retI dX9_part_300 (rfb rfl) ?_
          first | (rw [b2i_0 c_227]; exact h1 c_227) | (rw [b2i_1 c_227]; exact h2 c_227)
        · skip
          refine R_iconst dX9_part_245 (v := zI (1)) rfl ?_
          refine R_goto dX9_part_246 (tgt := 250) (by decide) ?_
          refine R_istore dX9_part_250 (by decide) rfl rfl ?_
          refine R_iload_n dX9_part_252 rfl rfl ?_
          refine R_bipush dX9_part_253 (v := zI (114)) rfl ?_
          refine Z_icmp_ne dX9_part_255 (by first | exact hI.1 _ | assumption | exact hI1.1 _ | exact hI2.1 _ | exact ⟨by omega, by omega⟩) (by first | exact hI.1 _ | assumption | exact hI1.1 _ | exact hI2.1 _ | exact ⟨by omega, by omega⟩) (tgt := 265) (by decide) (fun c_255 => ?_) (fun c_255 => absurd c_255 (by decide))
          refine R_iconst dX9_part_265 (v := zI (0)) rfl ?_
          refine R_istore dX9_part_266 (by decide) rfl rfl ?_
          refine R_iload_n dX9_part_268 rfl rfl ?_
          refine R_bipush dX9_part_269 (v := zI (111)) rfl ?_
          refine Z_icmp_eq dX9_part_271 (by first | exact hI.1 _ | assumption | exact hI1.1 _ | exact hI2.1 _ | exact ⟨by omega, by omega⟩) (by first | exact hI.1 _ | assumption | exact hI1.1 _ | exact hI2.1 _ | exact ⟨by omega, by omega⟩) (tgt := 280) (by decide) (fun c_271 => absurd c_271 (by decide)) (fun c_271 => ?_)
          refine R_iload_n dX9_part_274 rfl rfl ?_
          refine R_bipush dX9_part_275 (v := zI (115)) rfl ?_
          refine Z_icmp_ne dX9_part_277 (by first | exact hI.1 _ | assumption | exact hI1.1 _ | exact hI2.1 _ | exact ⟨by omega, by omega⟩) (by first | exact hI.1 _ | assumption | exact hI1.1 _ | exact hI2.1 _ | exact ⟨by omega, by omega⟩) (tgt := 298) (by decide) (fun c_277 => ?_) (fun c_277 => absurd c_277 (by decide))
          refine R_iload dX9_part_298 rfl ?_
          refine Z_retI dX9_part_300 (rfb rfl) ?_
          first | (rw [b2i_0 c_227]; exact h1 c_227) | (rw [b2i_1 c_227]; exact h2 c_227)
    · skip
      refine R_aload_n dX9_part_193 rfl rfl rfl ?_
      refine R_iload dX9_part_194 rfl ?_
      refine R_cV1 0 dX9_part_196 rfl cv_X9_128 mh_get0 rfl rfl (Nat.le_of_ble_eq_true rfl) (Nat.zero_le _) (sp_X9_isStreet (by first | assumption | exact hI.1 _ | exact hI1.1 _ | exact hI2.1 _ | omega | (refine ⟨?_, ?_⟩ <;> omega)) (by first | assumption | exact hI.1 _ | exact hI1.1 _ | exact hI2.1 _ | omega | (refine ⟨?_, ?_⟩ <;> omega)) (kq.v ?_))
      refine Z_if_eqB dX9_part_199 (tgt := 222) (by decide) (fun c_199 => ?_) (fun c_199 => ?_)
      · skip
        refine R_iconst dX9_part_222 (v := zI (0)) rfl ?_
        exact jf_193 (by first | exact ec.mpr (by omega) | exact fun z => absurd (ec.mp z) (by omega))
      · skip
        refine R_iload_n dX9_part_202 rfl rfl ?_
        refine R_bipush dX9_part_203 (v := zI (116)) rfl ?_
        refine Z_icmp_eq dX9_part_205 (by first | exact hI.1 _ | assumption | exact hI1.1 _ | exact hI2.1 _ | exact ⟨by omega, by omega⟩) (by first | exact hI.1 _ | assumption | exact hI1.1 _ | exact hI2.1 _ | exact ⟨by omega, by omega⟩) (tgt := 218) (by decide) (fun c_205 => ?_) (fun c_205 => absurd c_205 (by decide))
        refine R_iconst dX9_part_218 (v := zI (1)) rfl ?_
        refine R_goto dX9_part_219 (tgt := 223) (by decide) ?_
        exact jt_193 (by first | exact ec.mpr (by omega) | exact fun z => absurd (ec.mp z) (by omega))
  · have e : exF τ 114 q k = turnF τ := by unfold exF; rw [if_neg (by decide), if_pos rfl]
    rw [e] at h2
    have ec : canX τ 114 q k ↔ overF τ = 0 := by unfold canX; omega
    refine R_iload_n dX9_part_165 rfl rfl ?_
    refine Z_if_ne dX9_part_166 (by first | exact hI.1 _ | assumption | exact hI1.1 _ | exact hI2.1 _ | exact ⟨by omega, by omega⟩) (tgt := 171) (by decide) (fun c_166 => ?_) (fun c_166 => absurd c_166 (by decide))
    refine R_iload_n dX9_part_171 rfl rfl ?_
    refine R_bipush dX9_part_172 (v := zI (115)) rfl ?_
    refine Z_icmp_eq dX9_part_174 (by first | exact hI.1 _ | assumption | exact hI1.1 _ | exact hI2.1 _ | exact ⟨by omega, by omega⟩) (by first | exact hI.1 _ | assumption | exact hI1.1 _ | exact hI2.1 _ | exact ⟨by omega, by omega⟩) (tgt := 218) (by decide) (fun c_174 => absurd c_174 (by decide)) (fun c_174 => ?_)
    refine R_iload_n dX9_part_177 rfl rfl ?_
    refine R_bipush dX9_part_178 (v := zI (114)) rfl ?_
    refine Z_icmp_ne dX9_part_180 (by first | exact hI.1 _ | assumption | exact hI1.1 _ | exact hI2.1 _ | exact ⟨by omega, by omega⟩) (by first | exact hI.1 _ | assumption | exact hI1.1 _ | exact hI2.1 _ | exact ⟨by omega, by omega⟩) (tgt := 193) (by decide) (fun c_180 => absurd c_180 (by decide)) (fun c_180 => ?_)
    refine z_joinB (canX τ 114 q k) 223 ?_ (fun jt_183 jf_183 => ?_)
    · skip
      refine R_istore dX9_part_223 (by decide) rfl rfl ?_
      refine R_iload dX9_part_225 rfl ?_
      refine Z_if_eqB dX9_part_227 (tgt := 298) (by decide) (fun c_227 => ?_) (fun c_227 => ?_)
      · skip
        refine R_iload dX9_part_298 rfl ?_
        refine Z_retI dX9_part_300 (rfb rfl) ?_
        first | (rw [b2i_0 c_227]; exact h1 c_227) | (rw [b2i_1 c_227]; exact h2 c_227)
      · skip
        refine R_iload_n dX9_part_230 rfl rfl ?_
        refine R_bipush dX9_part_231 (v := zI (116)) rfl ?_
        refine Z_icmp_ne dX9_part_233 (by first | exact hI.1 _ | assumption | exact hI1.1 _ | exact hI2.1 _ | exact ⟨by omega, by omega⟩) (by first | exact hI.1 _ | assumption | exact hI1.1 _ | exact hI2.1 _ | exact ⟨by omega, by omega⟩) (tgt := 249) (by decide) (fun c_233 => ?_) (fun c_233 => absurd c_233 (by decide))
        refine R_iconst dX9_part_249 (v := zI (0)) rfl ?_
        refine R_istore dX9_part_250 (by decide) rfl rfl ?_
        refine R_iload_n dX9_part_252 rfl rfl ?_
        refine R_bipush dX9_part_253 (v := zI (114)) rfl ?_
        refine Z_icmp_ne dX9_part_255 (by first | exact hI.1 _ | assumption | exact hI1.1 _ | exact hI2.1 _ | exact ⟨by omega, by omega⟩) (by first | exact hI.1 _ | assumption | exact hI1.1 _ | exact hI2.1 _ | exact ⟨by omega, by omega⟩) (tgt := 265) (by decide) (fun c_255 => absurd c_255 (by decide)) (fun c_255 => ?_)
        refine R_aload_n dX9_part_258 rfl rfl rfl ?_
        refine R_cV0 0 dX9_part_259 rfl cv_X9_143 mh_get0 rfl rfl (Nat.le_of_ble_eq_true rfl) (Nat.zero_le _) (sp_X9_turns hI (hE rfl (ec.mp c_227)) (kq.v ?_))
        refine R_goto dX9_part_262 (tgt := 266) (by decide) ?_
        refine R_istore dX9_part_266 (by decide) rfl rfl ?_
        refine R_iload_n dX9_part_268 rfl rfl ?_
        refine R_bipush dX9_part_269 (v := zI (111)) rfl ?_
        refine Z_icmp_eq dX9_part_271 (by first | exact hI.1 _ | assumption | exact hI1.1 _ | exact hI2.1 _ | exact ⟨by omega, by omega⟩) (by first | exact hI.1 _ | assumption | exact hI1.1 _ | exact hI2.1 _ | exact ⟨by omega, by omega⟩) (tgt := 280) (by decide) (fun c_271 => absurd c_271 (by decide)) (fun c_271 => ?_)
        refine R_iload_n dX9_part_274 rfl rfl ?_
        refine R_bipush dX9_part_275 (v := zI (115)) rfl ?_
        refine Z_icmp_ne dX9_part_277 (by first | exact hI.1 _ | assumption | exact hI1.1 _ | exact hI2.1 _ | exact ⟨by omega, by omega⟩) (by first | exact hI.1 _ | assumption | exact hI1.1 _ | exact hI2.1 _ | exact ⟨by omega, by omega⟩) (tgt := 298) (by decide) (fun c_277 => ?_) (fun c_277 => absurd c_277 (by decide))
        refine R_iload dX9_part_298 rfl ?_
        refine Z_retI dX9_part_300 (rfb rfl) ?_
        first | (rw [b2i_0 c_227]; exact h1 c_227) | (rw [b2i_1 c_227]; exact h2 c_227)
    · skip
      refine R_aload_n dX9_part_183 rfl rfl rfl ?_
      refine R_cV0 0 dX9_part_184 rfl cv_X9_74 mh_get0 rfl rfl (Nat.le_of_ble_eq_true rfl) (Nat.zero_le _) (sp_X9_over (by first | assumption | exact hI.1 _ | exact hI1.1 _ | exact hI2.1 _ | omega | (refine ⟨?_, ?_⟩ <;> omega)) (kq.v ?_))
      refine Z_if_ne dX9_part_187 (by first | exact hI.1 _ | assumption | exact hI1.1 _ | exact hI2.1 _ | exact ⟨by omega, by omega⟩) (tgt := 222) (by decide) (fun c_187 => ?_) (fun c_187 => ?_)
      · skip
        refine R_iconst dX9_part_222 (v := zI (0)) rfl ?_
        exact jf_183 (by first | exact ec.mpr (by omega) | exact fun z => absurd (ec.mp z) (by omega))
      · skip
        refine R_goto dX9_part_190 (tgt := 218) (by decide) ?_
        refine R_iconst dX9_part_218 (v := zI (1)) rfl ?_
        refine R_goto dX9_part_219 (tgt := 223) (by decide) ?_
        exact jt_183 (by first | exact ec.mpr (by omega) | exact fun z => absurd (ec.mp z) (by omega))

/-- how far a text reads, and whether something is wrong -/
noncomputable def gpS (σ : St) : Nat → Int → Int × Int
  | 0, a => (a, 0)
  | k + 1, a => @ite _ (okL (ltF σ a)) (Classical.propDecidable _) (if p4W σ a (ltF σ a) = 0 ∧ p4A σ a (ltF σ a) < σ 702 then (if sgW σ (p4A σ a (ltF σ a)) 0 59 59 = 0 then gpS σ k (p4A σ a (ltF σ a) + 1) else (p4A σ a (ltF σ a), 1)) else (p4A σ a (ltF σ a), p4W σ a (ltF σ a))) (a, 1)

theorem lp_go0 {Ω : Wd} {d r : Nat} {Q : Hp → Out → Prop} {b : Nat} {h0 : Hp} {σ : St} (hI : MI σ) (hb : bufP σ) : ∀ (k : Nat) (a n : Int), 0 ≤ a ∧ a ≤ σ 702 → σ 702 - a < (k : Int) → (∀ n' : Int, Q (mh b h0 (ps σ (gpS σ k a).1 (gpS σ k a).2)) (.inl (some (.int (zI n'))))) → At Ω M_X9_go (d + 6) r Q 18 [some (.ref b), some (.int (zI 0)), some (.int (zI n)), none, none] [] (mh b h0 (ps σ a 0)) := by
  intro k
  induction k with
  | zero => intro a n ha hk; omega
  | succ k ih =>
    intro a n ha hk hQ
    have h702 := hI.2.2.2.2.2.1
    have h4 := p4_bd σ a (ltF σ a)
    have hlt : a = σ 702 → ltF σ a = 0 := fun z => if_neg (by omega)
    unfold gpS at hQ
    refine R_aload_n dX9_go_18 rfl rfl rfl ?_
    refine R_iload_n dX9_go_19 rfl rfl ?_
    refine R_cV1 0 dX9_go_20 rfl cv_X9_162 mh_get0 rfl rfl (Nat.le_of_ble_eq_true rfl) (Nat.zero_le _) (part_look hI hb (by omega) (fun hok => kq.v ?_) (fun hok => kq.v ?_))
    · skip
      rw [if_neg hok] at hQ
      refine Z_if_ne dX9_go_23 (by first | exact hI.1 _ | assumption | exact hI1.1 _ | exact hI2.1 _ | exact ⟨by omega, by omega⟩) (tgt := 46) (by decide) (fun c_23 => ?_) (fun c_23 => absurd c_23 (by decide))
      refine Z_iinc dX9_go_46 rfl (by decide) rfl rfl ?_
      refine R_aload_n dX9_go_49 rfl rfl rfl ?_
      refine Zm_gf dX9_go_50 gf_X9_152 rfl ?_
      rw [ps_5]
      refine Z_if_ne dX9_go_53 (by first | exact hI.1 _ | assumption | exact hI1.1 _ | exact hI2.1 _ | exact ⟨by omega, by omega⟩) (tgt := 71) (by decide) (fun c_53 => ?_) (fun c_53 => absurd c_53 (by decide))
      refine R_iconst dX9_go_71 (v := zI (0)) rfl ?_
      refine R_istore_n dX9_go_72 rfl (by decide) rfl rfl ?_
      refine R_iload_n dX9_go_73 rfl rfl ?_
      refine Z_if_eq dX9_go_74 (by decide) (tgt := 14) (by decide) (fun c_74 => ?_) (fun c_74 => absurd c_74 (by decide))
      refine R_iload_n dX9_go_14 rfl rfl ?_
      refine Z_if_eq dX9_go_15 (by decide) (tgt := 103) (by decide) (fun c_15 => ?_) (fun c_15 => absurd c_15 (by decide))
      refine R_iload_n dX9_go_103 rfl rfl ?_
      refine Z_retI dX9_go_104 (rf_i rfl) ?_
      exact hQ _
    · skip
      rw [if_pos hok] at hQ
      have hnk : a ≠ σ 702 := fun z => by have e := hlt z; rw [e] at hok; revert hok; decide
      have hwb := sgW_bd σ (p4A σ a (ltF σ a)) 0 59 59
      have ha1 : sgW σ (p4A σ a (ltF σ a)) 0 59 59 ≠ 0 → sgA σ (p4A σ a (ltF σ a)) 0 59 59 = p4A σ a (ltF σ a) := fun z => if_neg z
      have ha0 : sgW σ (p4A σ a (ltF σ a)) 0 59 59 = 0 → sgA σ (p4A σ a (ltF σ a)) 0 59 59 = p4A σ a (ltF σ a) + 1 := fun z => if_pos z
      refine Z_if_ne dX9_go_23 (by first | exact hI.1 _ | assumption | exact hI1.1 _ | exact hI2.1 _ | exact ⟨by omega, by omega⟩) (tgt := 46) (by decide) (fun c_23 => ?_) (fun c_23 => absurd c_23 (by decide))
      refine Z_iinc dX9_go_46 rfl (by decide) rfl rfl ?_
      refine R_aload_n dX9_go_49 rfl rfl rfl ?_
      refine Zm_gf dX9_go_50 gf_X9_152 rfl ?_
      rw [ps_5]
      refine Z_if_ne dX9_go_53 (by first | exact hI.1 _ | assumption | exact hI1.1 _ | exact hI2.1 _ | exact ⟨by omega, by omega⟩) (tgt := 71) (by decide) (fun c_53 => ?_) (fun c_53 => ?_)
      · skip
        refine R_iconst dX9_go_71 (v := zI (0)) rfl ?_
        refine R_istore_n dX9_go_72 rfl (by decide) rfl rfl ?_
        refine R_iload_n dX9_go_73 rfl rfl ?_
        refine Z_if_eq dX9_go_74 (by decide) (tgt := 14) (by decide) (fun c_74 => ?_) (fun c_74 => absurd c_74 (by decide))
        refine R_iload_n dX9_go_14 rfl rfl ?_
        refine Z_if_eq dX9_go_15 (by decide) (tgt := 103) (by decide) (fun c_15 => ?_) (fun c_15 => absurd c_15 (by decide))
        refine R_iload_n dX9_go_103 rfl rfl ?_
        refine Z_retI dX9_go_104 (rf_i rfl) ?_
        first | (rw [if_neg c_91, show sgW σ (p4A σ a (ltF σ a)) 0 59 59 = 1 by omega] at *; exact hQ _) | (rw [if_neg (fun z => absurd z.2 (by omega))] at hQ; exact hQ _) | (rw [if_neg (fun z => absurd z.1 c_53)] at hQ; exact hQ _)
      · skip
        refine R_aload_n dX9_go_56 rfl rfl rfl ?_
        refine Zm_gf dX9_go_57 gf_X9_149 rfl ?_
        rw [ps_4]
        refine R_aload_n dX9_go_60 rfl rfl rfl ?_
        refine Zm_gf dX9_go_61 gf_X9_146 rfl ?_
        rw [ps_ne (by omega)]
        refine Z_icmp_ge dX9_go_64 (by first | exact hI.1 _ | assumption | exact hI1.1 _ | exact hI2.1 _ | exact ⟨by omega, by omega⟩) (by first | exact hI.1 _ | assumption | exact hI1.1 _ | exact hI2.1 _ | exact ⟨by omega, by omega⟩) (tgt := 71) (by decide) (fun c_64 => ?_) (fun c_64 => ?_)
        · skip
          refine R_iconst dX9_go_71 (v := zI (0)) rfl ?_
          refine R_istore_n dX9_go_72 rfl (by decide) rfl rfl ?_
          refine R_iload_n dX9_go_73 rfl rfl ?_
          refine Z_if_eq dX9_go_74 (by decide) (tgt := 14) (by decide) (fun c_74 => ?_) (fun c_74 => absurd c_74 (by decide))
          refine R_iload_n dX9_go_14 rfl rfl ?_
          refine Z_if_eq dX9_go_15 (by decide) (tgt := 103) (by decide) (fun c_15 => ?_) (fun c_15 => absurd c_15 (by decide))
          refine R_iload_n dX9_go_103 rfl rfl ?_
          refine Z_retI dX9_go_104 (rf_i rfl) ?_
          first | (rw [if_neg c_91, show sgW σ (p4A σ a (ltF σ a)) 0 59 59 = 1 by omega] at *; exact hQ _) | (rw [if_neg (fun z => absurd z.2 (by omega))] at hQ; exact hQ _) | (rw [if_neg (fun z => absurd z.1 c_53)] at hQ; exact hQ _)
        · skip
          refine R_iconst dX9_go_67 (v := zI (1)) rfl ?_
          refine R_goto dX9_go_68 (tgt := 72) (by decide) ?_
          refine R_istore_n dX9_go_72 rfl (by decide) rfl rfl ?_
          refine R_iload_n dX9_go_73 rfl rfl ?_
          refine Z_if_eq dX9_go_74 (by decide) (tgt := 14) (by decide) (fun c_74 => absurd c_74 (by decide)) (fun c_74 => ?_)
          have e82 : p4W σ a (ltF σ a) = 0 ∧ p4A σ a (ltF σ a) < σ 702 := ⟨c_53, c_64⟩
          rw [if_pos e82] at hQ
          rw [c_53]
          refine R_aload_n dX9_go_77 rfl rfl rfl ?_
          refine R_bipush dX9_go_78 (v := zI (59)) rfl ?_
          refine R_bipush dX9_go_80 (v := zI (59)) rfl ?_
          refine R_cV2 0 dX9_go_82 rfl cv_X9_156 mh_get0 rfl rfl (Nat.le_of_ble_eq_true rfl) (Nat.zero_le _) (sp_X9_sign hI (by omega) (by omega) (by decide) (by decide) (kq.v ?_))
          refine R_istore dX9_go_85 (by decide) rfl rfl ?_
          refine R_aload_n dX9_go_87 rfl rfl rfl ?_
          refine Zm_gf dX9_go_88 gf_X9_152 rfl ?_
          rw [ps_5]
          refine Z_if_ne dX9_go_91 (by first | exact hI.1 _ | assumption | exact hI1.1 _ | exact hI2.1 _ | exact ⟨by omega, by omega⟩) (tgt := 98) (by decide) (fun c_91 => ?_) (fun c_91 => ?_)
          · skip
            rw [ha1 c_91]
            refine R_iconst dX9_go_98 (v := zI (0)) rfl ?_
            refine R_istore_n dX9_go_99 rfl (by decide) rfl rfl ?_
            refine R_goto dX9_go_100 (tgt := 14) (by decide) ?_
            refine R_iload_n dX9_go_14 rfl rfl ?_
            refine Z_if_eq dX9_go_15 (by decide) (tgt := 103) (by decide) (fun c_15 => ?_) (fun c_15 => absurd c_15 (by decide))
            refine R_iload_n dX9_go_103 rfl rfl ?_
            refine Z_retI dX9_go_104 (rf_i rfl) ?_
            first | (rw [if_neg c_91, show sgW σ (p4A σ a (ltF σ a)) 0 59 59 = 1 by omega] at *; exact hQ _) | (rw [if_neg (fun z => absurd z.2 (by omega))] at hQ; exact hQ _) | (rw [if_neg (fun z => absurd z.1 c_53)] at hQ; exact hQ _)
          · skip
            rw [ha0 c_91]
            refine R_iconst dX9_go_94 (v := zI (1)) rfl ?_
            refine R_goto dX9_go_95 (tgt := 99) (by decide) ?_
            refine R_istore_n dX9_go_99 rfl (by decide) rfl rfl ?_
            refine R_goto dX9_go_100 (tgt := 14) (by decide) ?_
            refine R_iload_n dX9_go_14 rfl rfl ?_
            refine Z_if_eq dX9_go_15 (by decide) (tgt := 103) (by decide) (fun c_15 => absurd c_15 (by decide)) (fun c_15 => ?_)
            rw [if_pos c_91] at hQ
            rw [c_91]
            exact At.dropS [some (.ref b), some (.int (zI 0)), some (.int (zI (n + 1))), none, none] ⟨rfl, rfl, rfl, trivial⟩ (ih _ _ (by omega) (by omega) hQ)

/-- how the parts are done: state and count at the end -/
def gxP : Nat → St → Int → Int → St → Int → Prop
  | 0, _, _, _, _, _ => False
  | k + 1, τ, a, n, τ', n' => (¬ canX (ps τ (p4A τ a (ltF τ a)) 0) (ltF τ a) (p2V τ a (ltF τ a)) (p4V τ a (ltF τ a)) ∧ τ' = us (us (ps τ (p4A τ a (ltF τ a)) 0) 172 1) 173 n ∧ n' = n) ∨
    (canX (ps τ (p4A τ a (ltF τ a)) 0) (ltF τ a) (p2V τ a (ltF τ a)) (p4V τ a (ltF τ a)) ∧ ((p4A τ a (ltF τ a) < τ 702 ∧ gxP k (exF (ps τ (p4A τ a (ltF τ a)) 0) (ltF τ a) (p2V τ a (ltF τ a)) (p4V τ a (ltF τ a))) (p4A τ a (ltF τ a) + 1) (n + 1) τ' n') ∨ (¬ p4A τ a (ltF τ a) < τ 702 ∧ τ' = exF (ps τ (p4A τ a (ltF τ a)) 0) (ltF τ a) (p2V τ a (ltF τ a)) (p4V τ a (ltF τ a)) ∧ n' = n + 1)))
/-- what is asked for to walk that -/
def gxH : Nat → St → Int → Prop
  | 0, _, _ => False
  | k + 1, τ, a => (okL (ltF τ a) ∧ p4W τ a (ltF τ a) = 0 ∧ MI τ ∧ bufP τ ∧ (0 ≤ p2V τ a (ltF τ a) ∧ p2V τ a (ltF τ a) < 4) ∧ rg (p4V τ a (ltF τ a)) ∧ (0 ≤ a ∧ a ≤ 60)) ∧
    (ltF τ a = 114 → overF (ps τ (p4A τ a (ltF τ a)) 0) = 0 → turnE (ps τ (p4A τ a (ltF τ a)) 0)) ∧
    (canX (ps τ (p4A τ a (ltF τ a)) 0) (ltF τ a) (p2V τ a (ltF τ a)) (p4V τ a (ltF τ a)) → ∀ υ : St, exF (ps τ (p4A τ a (ltF τ a)) 0) (ltF τ a) (p2V τ a (ltF τ a)) (p4V τ a (ltF τ a)) = υ → MI υ ∧ (υ 702 = τ 702 ∧ υ 704 = p4A τ a (ltF τ a) ∧ υ 705 = 0) ∧ (p4A τ a (ltF τ a) < τ 702 → sgW υ (p4A τ a (ltF τ a)) 0 59 59 = 0 ∧ gxH k υ (p4A τ a (ltF τ a) + 1)))

theorem lp_go1 {Ω : Wd} {d r : Nat} {Q : Hp → Out → Prop} {b : Nat} {h0 : Hp} : ∀ (k : Nat) (τ : St) (a n : Int), gxH k τ a → (∀ (τ' : St) (n' : Int), gxP k τ a n τ' n' → Q (mh b h0 τ') (.inl (some (.int (zI n'))))) → At Ω M_X9_go (d + 6) r Q 18 [some (.ref b), some (.int (zI 1)), some (.int (zI n)), none, none] [] (mh b h0 (ps τ a 0)) := by
  intro k
  induction k with
  | zero => intro τ a n hH; exact hH.elim
  | succ k ih =>
    intro τ a n hH hQ
    obtain ⟨⟨g1, g2, hI, hb, g5, g6, g7⟩, hE, hN⟩ := hH
    have h702 := hI.2.2.2.2.2.1
    have h4 := p4_bd τ a (ltF τ a)
    refine R_aload_n dX9_go_18 rfl rfl rfl ?_
    refine R_iload_n dX9_go_19 rfl rfl ?_
    refine R_cV1 0 dX9_go_20 rfl cv_X9_162 mh_get0 rfl rfl (Nat.le_of_ble_eq_true rfl) (Nat.zero_le _) (Ok.of (by decide) rfl (Nat.le_of_ble_eq_true rfl) rfl (part_in hI hb (by omega) (fun z => absurd g1 z) (fun _ => ?_)))
    rw [g2]
    refine part_do g1 (ps_MI hI ⟨by omega, by omega⟩ (by decide)) g5 g6 hE (fun hc => kq.v ?_) (fun hc => kq.v ?_)
    · skip
      refine Z_if_ne dX9_go_23 (by first | exact hI.1 _ | assumption | exact hI1.1 _ | exact hI2.1 _ | exact ⟨by omega, by omega⟩) (tgt := 46) (by decide) (fun c_23 => absurd c_23 (by decide)) (fun c_23 => ?_)
      refine R_aload_n dX9_go_26 rfl rfl rfl ?_
      refine Zm_gf dX9_go_27 gf_X9_7 rfl ?_
      refine R_sipush dX9_go_30 (v := zI (172)) rfl ?_
      refine R_iconst dX9_go_33 (v := zI (1)) rfl ?_
      refine Zm_st1 dX9_go_34 (by omega) ?_
      refine R_aload_n dX9_go_35 rfl rfl rfl ?_
      refine Zm_gf dX9_go_36 gf_X9_7 rfl ?_
      refine R_sipush dX9_go_39 (v := zI (173)) rfl ?_
      refine R_iload_n dX9_go_42 rfl rfl ?_
      refine Zm_st1 dX9_go_43 (by omega) ?_
      refine R_iload_n dX9_go_44 rfl rfl ?_
      refine Z_retI dX9_go_45 (rf_i rfl) ?_
      exact hQ _ _ (Or.inl ⟨hc, rfl, rfl⟩)
    · skip
      obtain ⟨υ, hυ⟩ : ∃ υ, exF (ps τ (p4A τ a (ltF τ a)) 0) (ltF τ a) (p2V τ a (ltF τ a)) (p4V τ a (ltF τ a)) = υ := ⟨_, rfl⟩
      obtain ⟨hI1, ⟨e2, e4, e5⟩, hS⟩ := hN hc υ hυ
      rw [hυ]
      have es : ps υ (p4A τ a (ltF τ a)) 0 = υ := by rw [← e4, ← e5]; exact ps_self
      rw [← es]
      refine Z_if_ne dX9_go_23 (by first | exact hI.1 _ | assumption | exact hI1.1 _ | exact hI2.1 _ | exact ⟨by omega, by omega⟩) (tgt := 46) (by decide) (fun c_23 => ?_) (fun c_23 => absurd c_23 (by decide))
      refine Z_iinc dX9_go_46 rfl (by decide) rfl rfl ?_
      refine R_aload_n dX9_go_49 rfl rfl rfl ?_
      refine Zm_gf dX9_go_50 gf_X9_152 rfl ?_
      rw [ps_5]
      refine Z_if_ne dX9_go_53 (by first | exact hI.1 _ | assumption | exact hI1.1 _ | exact hI2.1 _ | exact ⟨by omega, by omega⟩) (tgt := 71) (by decide) (fun c_53 => absurd c_53 (by decide)) (fun c_53 => ?_)
      refine R_aload_n dX9_go_56 rfl rfl rfl ?_
      refine Zm_gf dX9_go_57 gf_X9_149 rfl ?_
      rw [ps_4]
      refine R_aload_n dX9_go_60 rfl rfl rfl ?_
      refine Zm_gf dX9_go_61 gf_X9_146 rfl ?_
      rw [ps_ne (by omega), e2]
      refine Z_icmp_ge dX9_go_64 (by first | exact hI.1 _ | assumption | exact hI1.1 _ | exact hI2.1 _ | exact ⟨by omega, by omega⟩) (by first | exact hI.1 _ | assumption | exact hI1.1 _ | exact hI2.1 _ | exact ⟨by omega, by omega⟩) (tgt := 71) (by decide) (fun c_64 => ?_) (fun c_64 => ?_)
      · skip
        refine R_iconst dX9_go_71 (v := zI (0)) rfl ?_
        refine R_istore_n dX9_go_72 rfl (by decide) rfl rfl ?_
        refine R_iload_n dX9_go_73 rfl rfl ?_
        refine Z_if_eq dX9_go_74 (by decide) (tgt := 14) (by decide) (fun c_74 => ?_) (fun c_74 => absurd c_74 (by decide))
        refine R_iload_n dX9_go_14 rfl rfl ?_
        refine Z_if_eq dX9_go_15 (by decide) (tgt := 103) (by decide) (fun c_15 => ?_) (fun c_15 => absurd c_15 (by decide))
        refine R_iload_n dX9_go_103 rfl rfl ?_
        refine Z_retI dX9_go_104 (rf_i rfl) ?_
        rw [es]
        exact hQ _ _ (Or.inr ⟨hc, Or.inr ⟨by omega, hυ.symm, rfl⟩⟩)
      · skip
        refine R_iconst dX9_go_67 (v := zI (1)) rfl ?_
        refine R_goto dX9_go_68 (tgt := 72) (by decide) ?_
        refine R_istore_n dX9_go_72 rfl (by decide) rfl rfl ?_
        refine R_iload_n dX9_go_73 rfl rfl ?_
        refine Z_if_eq dX9_go_74 (by decide) (tgt := 14) (by decide) (fun c_74 => absurd c_74 (by decide)) (fun c_74 => ?_)
        obtain ⟨s1, s2⟩ := hS c_64
        have sA : sgA υ (p4A τ a (ltF τ a)) 0 59 59 = p4A τ a (ltF τ a) + 1 := if_pos s1
        refine R_aload_n dX9_go_77 rfl rfl rfl ?_
        refine R_bipush dX9_go_78 (v := zI (59)) rfl ?_
        refine R_bipush dX9_go_80 (v := zI (59)) rfl ?_
        refine R_cV2 0 dX9_go_82 rfl cv_X9_156 mh_get0 rfl rfl (Nat.le_of_ble_eq_true rfl) (Nat.zero_le _) (sp_X9_sign hI1 (by omega) (by omega) (by decide) (by decide) (kq.v ?_))
        rw [s1, sA]
        refine R_istore dX9_go_85 (by decide) rfl rfl ?_
        refine R_aload_n dX9_go_87 rfl rfl rfl ?_
        refine Zm_gf dX9_go_88 gf_X9_152 rfl ?_
        rw [ps_5]
        refine Z_if_ne dX9_go_91 (by first | exact hI.1 _ | assumption | exact hI1.1 _ | exact hI2.1 _ | exact ⟨by omega, by omega⟩) (tgt := 98) (by decide) (fun c_91 => absurd c_91 (by decide)) (fun c_91 => ?_)
        refine R_iconst dX9_go_94 (v := zI (1)) rfl ?_
        refine R_goto dX9_go_95 (tgt := 99) (by decide) ?_
        refine R_istore_n dX9_go_99 rfl (by decide) rfl rfl ?_
        refine R_goto dX9_go_100 (tgt := 14) (by decide) ?_
        refine R_iload_n dX9_go_14 rfl rfl ?_
        refine Z_if_eq dX9_go_15 (by decide) (tgt := 103) (by decide) (fun c_15 => absurd c_15 (by decide)) (fun c_15 => ?_)
        exact At.dropS [some (.ref b), some (.int (zI 1)), some (.int (zI (n + 1))), none, none] ⟨rfl, rfl, rfl, trivial⟩ (ih υ _ _ s2 (fun τ' n' hg => hQ τ' n' (Or.inr ⟨hc, Or.inl ⟨c_64, by rw [hυ]; exact hg⟩⟩)))

theorem ps_00 (σ : St) : us (us σ 704 0) 705 0 = ps σ 0 0 := rfl
theorem go_look {Ω : Wd} {d r : Nat} {Q : Hp → Out → Prop} {b : Nat} {h0 : Hp} {σ : St} (hI : MI σ) (hb : bufP σ) (hQ : ∀ n' : Int, Q (mh b h0 (ps σ (gpS σ 62 0).1 (gpS σ 62 0).2)) (.inl (some (.int (zI n'))))) : Ok Ω M_X9_go (d + 6) r [.ref b, .int (zI 0)] (mh b h0 σ) Q := by
  refine Ok.of (by decide) rfl (Nat.le_of_ble_eq_true rfl) rfl ?_
  have h702 := hI.2.2.2.2.2.1
  refine R_aload_n dX9_go_0 rfl rfl rfl ?_
  refine R_iconst dX9_go_1 (v := zI (0)) rfl ?_
  refine Zm_pf10 dX9_go_2 pf_X9_149 ?_
  refine R_aload_n dX9_go_5 rfl rfl rfl ?_
  refine R_iconst dX9_go_6 (v := zI (0)) rfl ?_
  refine Zm_pf11 dX9_go_7 pf_X9_152 (by omega) ?_
  refine R_iconst dX9_go_10 (v := zI (0)) rfl ?_
  refine R_istore_n dX9_go_11 rfl (by decide) rfl rfl ?_
  refine R_iconst dX9_go_12 (v := zI (1)) rfl ?_
  refine R_istore_n dX9_go_13 rfl (by decide) rfl rfl ?_
  refine R_iload_n dX9_go_14 rfl rfl ?_
  refine Z_if_eq dX9_go_15 (by decide) (tgt := 103) (by decide) (fun c_15 => absurd c_15 (by decide)) (fun c_15 => ?_)
  rw [ps_00]
  exact At.dropS [some (.ref b), some (.int (zI 0)), some (.int (zI 0)), none, none] ⟨rfl, rfl, rfl, trivial⟩ (lp_go0 hI hb 62 0 0 (by omega) (by omega) hQ)
theorem go_do {Ω : Wd} {d r : Nat} {Q : Hp → Out → Prop} {b : Nat} {h0 : Hp} {σ : St} (hH : gxH 62 σ 0) (hQ : ∀ (τ' : St) (n' : Int), gxP 62 σ 0 0 τ' n' → Q (mh b h0 τ') (.inl (some (.int (zI n'))))) : Ok Ω M_X9_go (d + 6) r [.ref b, .int (zI 1)] (mh b h0 σ) Q := by
  refine Ok.of (by decide) rfl (Nat.le_of_ble_eq_true rfl) rfl ?_
  refine R_aload_n dX9_go_0 rfl rfl rfl ?_
  refine R_iconst dX9_go_1 (v := zI (0)) rfl ?_
  refine Zm_pf10 dX9_go_2 pf_X9_149 ?_
  refine R_aload_n dX9_go_5 rfl rfl rfl ?_
  refine R_iconst dX9_go_6 (v := zI (0)) rfl ?_
  refine Zm_pf11 dX9_go_7 pf_X9_152 (by omega) ?_
  refine R_iconst dX9_go_10 (v := zI (0)) rfl ?_
  refine R_istore_n dX9_go_11 rfl (by decide) rfl rfl ?_
  refine R_iconst dX9_go_12 (v := zI (1)) rfl ?_
  refine R_istore_n dX9_go_13 rfl (by decide) rfl rfl ?_
  refine R_iload_n dX9_go_14 rfl rfl ?_
  refine Z_if_eq dX9_go_15 (by decide) (tgt := 103) (by decide) (fun c_15 => absurd c_15 (by decide)) (fun c_15 => ?_)
  rw [ps_00]
  exact At.dropS [some (.ref b), some (.int (zI 1)), some (.int (zI 0)), none, none] ⟨rfl, rfl, rfl, trivial⟩ (lp_go1 62 σ 0 0 hH hQ)

theorem gpS_bd (σ : St) : ∀ (k : Nat) (a : Int), (a ≤ (gpS σ k a).1 ∧ (gpS σ k a).1 ≤ a + 6 * k) ∧ (0 ≤ (gpS σ k a).2 ∧ (gpS σ k a).2 ≤ 1)
  | 0, a => by simp [gpS]
  | k + 1, a => by
    have h4 := p4_bd σ a (ltF σ a)
    unfold gpS
    split
    · split
      · split
        · have := gpS_bd σ k (p4A σ a (ltF σ a) + 1)
          omega
        · show (a ≤ p4A σ a (ltF σ a) ∧ p4A σ a (ltF σ a) ≤ _) ∧ (0 ≤ (1 : Int) ∧ (1 : Int) ≤ 1)
          omega
      · show (a ≤ p4A σ a (ltF σ a) ∧ p4A σ a (ltF σ a) ≤ _) ∧ (0 ≤ p4W σ a (ltF σ a) ∧ p4W σ a (ltF σ a) ≤ 1)
        omega
    · show (a ≤ a ∧ a ≤ _) ∧ (0 ≤ (1 : Int) ∧ (1 : Int) ≤ 1)
      omega

theorem sp_X9_firstError {Ω : Wd} {d r : Nat} {Q : Hp → Out → Prop} {b : Nat} {h0 : Hp} {σ : St} {τ : St} (hτ : us σ 703 0 = τ) (hI : MI τ) (hb : bufP τ) (h1 : ¬ (gpS τ 62 0).2 = 0 → Q (mh b h0 (ps τ (gpS τ 62 0).1 (gpS τ 62 0).2)) (.inl (some (.int (zI (gpS τ 62 0).1))))) (h2 : (gpS τ 62 0).2 = 0 → Q (mh b h0 (ps τ (gpS τ 62 0).1 (gpS τ 62 0).2)) (.inl (some (.int (zI (τ 702)))))) : Ok Ω M_X9_firstError (d + 7) r [.ref b] (mh b h0 (σ)) Q := by
  refine Ok.of (by decide) rfl (Nat.le_of_ble_eq_true rfl) rfl ?_
  have hw := gpS_bd τ 62 0
  refine R_aload_n dX9_firstError_0 rfl rfl rfl ?_
  refine R_iconst dX9_firstError_1 (v := zI (0)) rfl ?_
  refine Zm_pf7 dX9_firstError_2 pf_X9_38 ?_
  rw [hτ]
  refine R_aload_n dX9_firstError_5 rfl rfl rfl ?_
  refine R_iconst dX9_firstError_6 (v := zI (0)) rfl ?_
  refine R_cV1 0 dX9_firstError_7 rfl cv_X9_166 mh_get0 rfl rfl (Nat.le_of_ble_eq_true rfl) (Nat.zero_le _) (go_look hI hb (fun n' => kq.v ?_))
  refine R_istore_n dX9_firstError_10 rfl (by decide) rfl rfl ?_
  refine R_aload_n dX9_firstError_11 rfl rfl rfl ?_
  refine Zm_gf dX9_firstError_12 gf_X9_152 rfl ?_
  rw [ps_5]
  refine Z_if_eq dX9_firstError_15 (by first | exact hI.1 _ | assumption | exact hI1.1 _ | exact hI2.1 _ | exact ⟨by omega, by omega⟩) (tgt := 25) (by decide) (fun c_15 => ?_) (fun c_15 => ?_)
  · skip
    refine R_aload_n dX9_firstError_25 rfl rfl rfl ?_
    refine Zm_gf dX9_firstError_26 gf_X9_146 rfl ?_
    first | rw [ps_ne (by omega)] | skip
    refine Z_retI dX9_firstError_29 (rf_i rfl) ?_
    first | exact h1 c_15 | exact h2 c_15
  · skip
    refine R_aload_n dX9_firstError_18 rfl rfl rfl ?_
    refine Zm_gf dX9_firstError_19 gf_X9_149 rfl ?_
    rw [ps_4]
    refine R_goto dX9_firstError_22 (tgt := 29) (by decide) ?_
    first | rw [ps_ne (by omega)] | skip
    refine Z_retI dX9_firstError_29 (rf_i rfl) ?_
    first | exact h1 c_15 | exact h2 c_15

theorem sp_X9_play {Ω : Wd} {d r : Nat} {Q : Hp → Out → Prop} {b : Nat} {h0 : Hp} {σ : St} {τ : St} (hτ : us σ 703 0 = τ) (hI : MI τ) (hb : bufP τ) (h1 : ¬ (gpS τ 62 0).2 = 0 → Q (mh b h0 (us (ps τ (gpS τ 62 0).1 (gpS τ 62 0).2) 703 1)) (.inl (some (.int (zI 0))))) (hH : (gpS τ 62 0).2 = 0 → gxH 62 (us (savF (ps τ (gpS τ 62 0).1 (gpS τ 62 0).2)) 172 0) 0) (h2 : (gpS τ 62 0).2 = 0 → ∀ (τ' : St) (n' : Int), gxP 62 (us (savF (ps τ (gpS τ 62 0).1 (gpS τ 62 0).2)) 172 0) 0 0 τ' n' → Q (mh b h0 (us τ' 702 0)) (.inl (some (.int (zI n'))))) : Ok Ω M_X9_play (d + 7) r [.ref b] (mh b h0 (σ)) Q := by
  refine Ok.of (by decide) rfl (Nat.le_of_ble_eq_true rfl) rfl ?_
  have hw := gpS_bd τ 62 0
  refine R_aload_n dX9_play_0 rfl rfl rfl ?_
  refine R_iconst dX9_play_1 (v := zI (0)) rfl ?_
  refine Zm_pf7 dX9_play_2 pf_X9_38 ?_
  rw [hτ]
  refine R_aload_n dX9_play_5 rfl rfl rfl ?_
  refine R_iconst dX9_play_6 (v := zI (0)) rfl ?_
  refine R_cV1 0 dX9_play_7 rfl cv_X9_166 mh_get0 rfl rfl (Nat.le_of_ble_eq_true rfl) (Nat.zero_le _) (go_look hI hb (fun n' => kq.v ?_))
  refine R_istore_n dX9_play_10 rfl (by decide) rfl rfl ?_
  refine R_aload_n dX9_play_11 rfl rfl rfl ?_
  refine Zm_gf dX9_play_12 gf_X9_152 rfl ?_
  rw [ps_5]
  refine Z_if_eq dX9_play_15 (by first | exact hI.1 _ | assumption | exact hI1.1 _ | exact hI2.1 _ | exact ⟨by omega, by omega⟩) (tgt := 24) (by decide) (fun c_15 => ?_) (fun c_15 => ?_)
  · skip
    refine R_aload_n dX9_play_24 rfl rfl rfl ?_
    refine R_cV0 0 dX9_play_25 rfl cv_X9_125 mh_get0 rfl rfl (Nat.le_of_ble_eq_true rfl) (Nat.zero_le _) (sp_X9_save (ps_MI hI ⟨by omega, by omega⟩ ⟨by omega, by omega⟩) (kq.n ?_))
    refine R_aload_n dX9_play_28 rfl rfl rfl ?_
    refine Zm_gf dX9_play_29 gf_X9_7 rfl ?_
    refine R_sipush dX9_play_32 (v := zI (172)) rfl ?_
    refine R_iconst dX9_play_35 (v := zI (0)) rfl ?_
    refine Zm_st1 dX9_play_36 (by omega) ?_
    refine R_aload_n dX9_play_37 rfl rfl rfl ?_
    refine R_iconst dX9_play_38 (v := zI (1)) rfl ?_
    refine R_cV1 0 dX9_play_39 rfl cv_X9_166 mh_get0 rfl rfl (Nat.le_of_ble_eq_true rfl) (Nat.zero_le _) (go_do (hH c_15) (fun τ' n2 hg => kq.v ?_))
    refine R_istore_n dX9_play_42 rfl (by decide) rfl rfl ?_
    refine R_aload_n dX9_play_43 rfl rfl rfl ?_
    refine R_iconst dX9_play_44 (v := zI (0)) rfl ?_
    refine Zm_pf6 dX9_play_45 pf_X9_146 ?_
    refine R_iload_n dX9_play_48 rfl rfl ?_
    refine Z_retI dX9_play_49 (rf_i rfl) ?_
    exact h2 c_15 _ _ hg
  · skip
    refine R_aload_n dX9_play_18 rfl rfl rfl ?_
    refine R_iconst dX9_play_19 (v := zI (1)) rfl ?_
    refine R_cV1 0 dX9_play_20 rfl cv_X9_122 mh_get0 rfl rfl (Nat.le_of_ble_eq_true rfl) (Nat.zero_le _) (sp_X9_throwing  (kq.v ?_))
    refine Z_retI dX9_play_23 (rf_i rfl) ?_
    exact h1 c_15


