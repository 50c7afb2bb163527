/-! the model: the digest -/
set_option maxRecDepth 100000
theorem eqs_hs (σ : St) (g : Int) : eqs σ (hs σ g) := fun x hx => hs_ne (by omega)
/-- the same but for far and the hash -/
abbrev eqH (σ τ : St) : Prop := (∀ x : Int, x < 706 ∨ (708 ≤ x ∧ x < 730) ∨ 740 ≤ x → τ x = σ x) ∧ ∀ x : Int, rg (τ x)
theorem eqH.eqs {φ ρ : St} (h : eqH φ ρ) (g : Int) : eqs φ (hs ρ g) := fun x hx => by rw [hs_ne (by omega)]; exact h.1 x (by omega)
theorem MI_eqH {σ τ : St} (hI : MI σ) (h : eqH σ τ) : MI τ := by
  obtain ⟨h1, h2, h3, h4, h5, h6, h7, h8, h9⟩ := hI
  have e0 : τ 0 = σ 0 := h.1 _ (by omega)
  have e1 : τ 117 = σ 117 := h.1 _ (by omega)
  refine ⟨h.2, by rw [e0]; exact h2, by rw [e1]; exact h3, by rw [h.1 _ (by omega)]; exact h4, by rw [h.1 _ (by omega)]; exact h5, by rw [h.1 _ (by omega)]; exact h6, ?_, ?_, ?_⟩
  · intro c hc
    rw [e0, h.1 _ (by omega), h.1 _ (by omega), h.1 _ (by omega)]; exact h7 c hc
  · intro k hk
    rw [e0] at hk
    rw [h.1 _ (by omega), h.1 _ (by omega), h.1 _ (by omega), h.1 _ (by omega)]; exact h8 k hk
  · intro p hp
    rw [e1] at hp
    rw [h.1 _ (by omega), h.1 _ (by omega), h.1 _ (by omega), h.1 _ (by omega), h.1 _ (by omega), h.1 _ (by omega)]; exact h9 p hp
/-- mixing -/
abbrev mx (g v : Int) : Int := 31 * g + v
noncomputable def dgA (φ : St) : Int := mx (mx (mx (mx (mx (mx (mx (mx (mx (mx (mx (mx 4357 (φ 0)) (φ 117)) (φ 168)) (φ 169)) (timF φ (firF φ) (secF φ))) (unlF φ)) (overF φ)) (φ 170)) (φ 170)) (φ 171)) (φ 171)) (φ 700)
noncomputable def dgB (φ : St) (g : Int) : Nat → Int
  | 0 => g
  | n + 1 => mx (mx (mx (dgB φ g n) (φ (1 + 4 * (n : Int)))) (φ (1 + 4 * (n : Int) + 1))) (b2i (φ (1 + 4 * (n : Int) + 3) = 1))
def dgF (f : Int → Int) (g : Int) : Nat → Int
  | 0 => g
  | n + 1 => mx (dgF f g n) (f (n : Int))
theorem dgF_cg {f f' : Int → Int} (g : Int) : ∀ n : Nat, (∀ x : Int, 0 ≤ x ∧ x < n → f x = f' x) → dgF f g n = dgF f' g n
  | 0, _ => rfl
  | n + 1, h => by
    unfold dgF
    rw [dgF_cg g n (fun x hx => h x (by omega)), h n (by omega)]
noncomputable def dgC1 (φ : St) (c g : Int) : Int := mx (mx (mx (mx g (φ (97 + 5 * c + 0))) (b2i (φ (97 + 5 * c + 1) = 1))) (loadF φ c)) (b2i (¬ φ (97 + 5 * c + 2) = -1))
noncomputable def dgC2 (φ : St) (c g : Int) : Int := if φ (97 + 5 * c + 2) = -1 then dgC1 φ c g else mx (dgC1 φ c g) (φ (97 + 5 * c + 2))
noncomputable def dgC3 (φ : St) (c g : Int) : Int := mx (mx (dgC2 φ c g) (φ (97 + 5 * c + 3))) (φ (97 + 5 * c + 4))
noncomputable def dgC4 (φ : St) (c g : Int) : Int := mx (mx (mx (dgC3 φ c g) (reachF φ c)) (reachF φ c)) (φ (710 + c))
noncomputable def dgC (φ : St) (g : Int) : Nat → Int
  | 0 => g
  | n + 1 => dgF (fun j => farF φ n (φ (97 + 5 * (n : Int) + 0)) j) (dgC4 φ n (dgC φ g n)) 10
noncomputable def dgP1 (φ : St) (p g : Int) : Int := mx (mx (mx g (b2i (φ (118 + 6 * p + 4) = 0))) (b2i (φ (118 + 6 * p + 4) = 2))) (spotF φ p)
noncomputable def dgP (φ : St) (g : Int) : Nat → Int
  | 0 => g
  | n + 1 => if φ (118 + 6 * (n : Int) + 4) = 0 then dgP1 φ n (dgP φ g n) else mx (dgP1 φ n (dgP φ g n)) (φ (118 + 6 * (n : Int) + 5))
noncomputable def dgS (φ : St) (g : Int) : Int := if φ 172 = 1 then mx (mx g (b2i (φ 172 = 1))) (φ 173) else mx g (b2i (φ 172 = 1))
noncomputable def mbF (φ : St) : Int := (bitsC (FP.f2d (meanF φ)) 23 127).getD 0
noncomputable def sbF (φ : St) : Int := (bitsC (shareF φ) 52 1023).getD 0
theorem mbF_some {φ : St} (hI : MI φ) : bitsC (FP.f2d (meanF φ)) 23 127 = some (mbF φ) ∧ n64 (FP.f2d (meanF φ)) = true := by
  have l0 := loadF_bd hI 0
  have l1 := loadF_bd hI 1
  have l2 := loadF_bd hI 2
  have l3 := loadF_bd hI 3
  obtain ⟨m, hm⟩ : ∃ m : Nat, loadF φ 0 + loadF φ 1 + loadF φ 2 + loadF φ 3 = m := ⟨(loadF φ 0 + loadF φ 1 + loadF φ 2 + loadF φ 3).toNat, by omega⟩
  have e : meanF φ = meanV m := by rw [← hm]; exact hide_eq _
  have h := mb_all ⟨m, by omega⟩
  unfold mbF
  rw [e]
  refine ⟨?_, (meanV_at (by omega)).2⟩
  cases hb : bitsC (FP.f2d (meanV m)) 23 127 with
  | none => rw [show bitsC (FP.f2d (meanV (((⟨m, by omega⟩ : Fin 161).1 : Nat) : Int))) 23 127 = none from hb] at h; cases h
  | some z => rfl
theorem sbF_some {φ : St} (hI : MI φ) : bitsC (shareF φ) 52 1023 = some (sbF φ) := by
  have h117 := hI.2.2.1
  have hd := dnS_bd φ (φ 117).toNat
  obtain ⟨m, hm⟩ : ∃ m : Nat, dnS φ (φ 117).toNat = m := ⟨(dnS φ (φ 117).toNat).toNat, by omega⟩
  obtain ⟨a, ha⟩ : ∃ a : Nat, φ 117 = a := ⟨(φ 117).toNat, by omega⟩
  have e : shareF φ = shareV m a := by rw [← hm, ← ha]; exact hide_eq _
  have h := sb_all ⟨a, by omega⟩ ⟨m, by omega⟩ (by show m ≤ a; omega)
  unfold sbF
  rw [e]
  cases hb : bitsC (shareV m a) 52 1023 with
  | none => rw [show bitsC (shareV (((⟨m, by omega⟩ : Fin 9).1 : Nat) : Int) (((⟨a, by omega⟩ : Fin 9).1 : Nat) : Int)) 52 1023 = none from hb] at h; cases h
  | some z => rfl
/-- the digest, by the state foretold -/
noncomputable def digF (φ : St) : Int := dgF (fun j => φ (600 + j)) (mx (mx (mx (dgS φ (dgP φ (dgC φ (dgB φ (dgA φ) (φ 0).toNat) 4) (φ 117).toNat)) (mbF φ)) (sbF φ)) (φ 702)) (φ 702).toNat

theorem lp_digB {Ω : Wd} {d r : Nat} {Q : Hp → Out → Prop} {b : Nat} {h0 : Hp} {σ : St} {g : Int} (hI : MI σ) : ∀ (k n : Nat), n + k = (σ 0).toNat → At Ω M_X9_digest (d + 4) r Q 208 [some (.ref b), none, none, none] [] (mh b h0 (hs σ (dgB σ g (σ 0).toNat))) → At Ω M_X9_digest (d + 4) r Q 163 [some (.ref b), some (.int (zI (((n : Nat) : Int)))), none, none] [] (mh b h0 (hs σ (dgB σ g n))) := by
  intro k
  induction k with
  | zero =>
    intro n hn hX
    have hnN : n = (σ 0).toNat := by omega
    rw [hnN]
    have h0' := hI.2.1
    refine R_iload_n dX9_digest_163 rfl rfl ?_
    refine R_aload_n dX9_digest_164 rfl rfl rfl ?_
    refine Zm_gf dX9_digest_165 gf_X9_7 rfl ?_
    refine R_iconst dX9_digest_168 (v := zI (0)) rfl ?_
    refine Zm_ld1 dX9_digest_169 (by omega) ?_
    rw [hs_ne (by omega)]
    refine Z_icmp_ge dX9_digest_170 (by first | exact hI.1 _ | assumption | exact hI1.1 _ | exact hI2.1 _ | exact ⟨by omega, by omega⟩) (by first | exact hI.1 _ | assumption | exact hI1.1 _ | exact hI2.1 _ | exact ⟨by omega, by omega⟩) (tgt := 208) (by decide) (fun c_170 => ?_) (fun c_170 => absurd c_170 (by omega))
    exact At.dropS (L' := [some (.ref b), none, none, none]) ⟨rfl, trivial⟩ hX
  | succ k ih =>
    intro n hn hX
    have h0' := hI.2.1
    refine R_iload_n dX9_digest_163 rfl rfl ?_
    refine R_aload_n dX9_digest_164 rfl rfl rfl ?_
    refine Zm_gf dX9_digest_165 gf_X9_7 rfl ?_
    refine R_iconst dX9_digest_168 (v := zI (0)) rfl ?_
    refine Zm_ld1 dX9_digest_169 (by omega) ?_
    rw [hs_ne (by omega)]
    refine Z_icmp_ge dX9_digest_170 (by first | exact hI.1 _ | assumption | exact hI1.1 _ | exact hI2.1 _ | exact ⟨by omega, by omega⟩) (by first | exact hI.1 _ | assumption | exact hI1.1 _ | exact hI2.1 _ | exact ⟨by omega, by omega⟩) (tgt := 208) (by decide) (fun c_170 => absurd c_170 (by omega)) (fun c_170 => ?_)
    have h8 := hI.2.2.2.2.2.2.2.1 (n : Int) (by omega)
    refine R_aload_n dX9_digest_173 rfl rfl rfl ?_
    refine R_aload_n dX9_digest_174 rfl rfl rfl ?_
    refine R_iload_n dX9_digest_175 rfl rfl ?_
    refine R_cV1 0 dX9_digest_176 rfl cv_X9_77 mh_get0 rfl rfl (Nat.le_of_ble_eq_true rfl) (Nat.zero_le _) (sp_X9_from (by first | assumption | exact hI.1 _ | exact hI1.1 _ | exact hI2.1 _ | omega | (refine ⟨?_, ?_⟩ <;> omega)) (kq.v ?_))
    rw [hs_ne (by omega)]
    refine Z_i2l dX9_digest_179 (by first | exact hI.1 _ | assumption | exact hI1.1 _ | exact hI2.1 _ | exact ⟨by omega, by omega⟩) ?_
    refine R_cV1 0 dX9_digest_180 rfl cv_X9_214 mh_get0 rfl rfl (Nat.le_of_ble_eq_true rfl) (Nat.zero_le _) (sp_X9_mix  (kq.n ?_))
    refine R_aload_n dX9_digest_183 rfl rfl rfl ?_
    refine R_aload_n dX9_digest_184 rfl rfl rfl ?_
    refine R_iload_n dX9_digest_185 rfl rfl ?_
    refine R_cV1 0 dX9_digest_186 rfl cv_X9_91 mh_get0 rfl rfl (Nat.le_of_ble_eq_true rfl) (Nat.zero_le _) (sp_X9_to (by first | assumption | exact hI.1 _ | exact hI1.1 _ | exact hI2.1 _ | omega | (refine ⟨?_, ?_⟩ <;> omega)) (kq.v ?_))
    rw [hs_ne (by omega)]
    refine Z_i2l dX9_digest_189 (by first | exact hI.1 _ | assumption | exact hI1.1 _ | exact hI2.1 _ | exact ⟨by omega, by omega⟩) ?_
    refine R_cV1 0 dX9_digest_190 rfl cv_X9_214 mh_get0 rfl rfl (Nat.le_of_ble_eq_true rfl) (Nat.zero_le _) (sp_X9_mix  (kq.n ?_))
    refine R_aload_n dX9_digest_193 rfl rfl rfl ?_
    refine R_aload_n dX9_digest_194 rfl rfl rfl ?_
    refine R_iload_n dX9_digest_195 rfl rfl ?_
    refine R_cV1 0 dX9_digest_196 rfl cv_X9_80 mh_get0 rfl rfl (Nat.le_of_ble_eq_true rfl) (Nat.zero_le _) (sp_X9_isFree (by omega) (by rw [hs_ne (by omega)]; exact hI.1 _) (kq.v ?_))
    rw [hs_ne (by omega)]
    refine R_cV1 0 dX9_digest_199 rfl cv_X9_220 mh_get0 rfl rfl (Nat.le_of_ble_eq_true rfl) (Nat.zero_le _) (sp_X9_mixes  (kq.n ?_))
    refine Z_iinc dX9_digest_202 rfl (by decide) rfl rfl ?_
    refine R_goto dX9_digest_205 (tgt := 163) (by decide) ?_
    exact At.dropS (L' := [some (.ref b), some (.int (zI ((((n + 1) : Nat) : Int)))), none, none]) ⟨rfl, rfl, trivial⟩ (ih (n + 1) (by omega) hX)

theorem lp_digF {Ω : Wd} {d r : Nat} {Q : Hp → Out → Prop} {b : Nat} {h0 : Hp} {σ : St} {g c : Int} (hr : ∀ x, rg (σ x)) : ∀ (k n : Nat), n + k = 10 → At Ω M_X9_digest (d + 4) r Q 371 [some (.ref b), some (.int (zI (c))), none, none] [] (mh b h0 (hs σ (dgF (fun j => σ (730 + j)) g 10))) → At Ω M_X9_digest (d + 4) r Q 348 [some (.ref b), some (.int (zI (c))), none, some (.int (zI (((n : Nat) : Int))))] [] (mh b h0 (hs σ (dgF (fun j => σ (730 + j)) g n))) := by
  intro k
  induction k with
  | zero =>
    intro n hn hX
    have hnN : n = 10 := by omega
    rw [hnN]
    refine R_iload_n dX9_digest_348 rfl rfl ?_
    refine R_bipush dX9_digest_349 (v := zI (10)) rfl ?_
    refine Z_icmp_ge dX9_digest_351 (by first | exact hI.1 _ | assumption | exact hI1.1 _ | exact hI2.1 _ | exact ⟨by omega, by omega⟩) (by first | exact hI.1 _ | assumption | exact hI1.1 _ | exact hI2.1 _ | exact ⟨by omega, by omega⟩) (tgt := 371) (by decide) (fun c_351 => ?_) (fun c_351 => absurd c_351 (by omega))
    exact At.dropS (L' := [some (.ref b), some (.int (zI (c))), none, none]) ⟨rfl, rfl, trivial⟩ hX
  | succ k ih =>
    intro n hn hX
    refine R_iload_n dX9_digest_348 rfl rfl ?_
    refine R_bipush dX9_digest_349 (v := zI (10)) rfl ?_
    refine Z_icmp_ge dX9_digest_351 (by first | exact hI.1 _ | assumption | exact hI1.1 _ | exact hI2.1 _ | exact ⟨by omega, by omega⟩) (by first | exact hI.1 _ | assumption | exact hI1.1 _ | exact hI2.1 _ | exact ⟨by omega, by omega⟩) (tgt := 371) (by decide) (fun c_351 => absurd c_351 (by omega)) (fun c_351 => ?_)
    refine R_aload_n dX9_digest_354 rfl rfl rfl ?_
    refine R_aload_n dX9_digest_355 rfl rfl rfl ?_
    refine Zm_gf dX9_digest_356 gf_X9_28 rfl ?_
    refine R_iload_n dX9_digest_359 rfl rfl ?_
    refine Zm_ld7 dX9_digest_360 (by omega) ?_
    rw [hs_ne (by omega)]
    refine Z_i2l dX9_digest_361 (hr _) ?_
    refine R_cV1 0 dX9_digest_362 rfl cv_X9_214 mh_get0 rfl rfl (Nat.le_of_ble_eq_true rfl) (Nat.zero_le _) (sp_X9_mix  (kq.n ?_))
    refine Z_iinc dX9_digest_365 rfl (by decide) rfl rfl ?_
    refine R_goto dX9_digest_368 (tgt := 348) (by decide) ?_
    exact At.dropS (L' := [some (.ref b), some (.int (zI (c))), none, some (.int (zI ((((n + 1) : Nat) : Int))))]) ⟨rfl, rfl, rfl, trivial⟩ (ih (n + 1) (by omega) hX)

theorem lp_digL {Ω : Wd} {d r : Nat} {Q : Hp → Out → Prop} {b : Nat} {h0 : Hp} {σ : St} {φ : St} {g : Int} (he : eqH φ σ) (hI : MI φ) : ∀ (k n : Nat), n + k = (φ 702).toNat → At Ω M_X9_digest (d + 4) r Q 577 [some (.ref b), none, none, none] [] (mh b h0 (hs σ (dgF (fun j => φ (600 + j)) g (φ 702).toNat))) → At Ω M_X9_digest (d + 4) r Q 552 [some (.ref b), some (.int (zI (((n : Nat) : Int)))), none, none] [] (mh b h0 (hs σ (dgF (fun j => φ (600 + j)) g n))) := by
  intro k
  induction k with
  | zero =>
    intro n hn hX
    have hnN : n = (φ 702).toNat := by omega
    rw [hnN]
    have h702 := hI.2.2.2.2.2.1
    refine R_iload_n dX9_digest_552 rfl rfl ?_
    refine R_aload_n dX9_digest_553 rfl rfl rfl ?_
    refine Zm_gf dX9_digest_554 gf_X9_146 rfl ?_
    rw [hs_ne (by omega), he.1 _ (by omega)]
    refine Z_icmp_ge dX9_digest_557 (by first | exact hI.1 _ | assumption | exact hI1.1 _ | exact hI2.1 _ | exact ⟨by omega, by omega⟩) (by first | exact hI.1 _ | assumption | exact hI1.1 _ | exact hI2.1 _ | exact ⟨by omega, by omega⟩) (tgt := 577) (by decide) (fun c_557 => ?_) (fun c_557 => absurd c_557 (by omega))
    exact At.dropS (L' := [some (.ref b), none, none, none]) ⟨rfl, trivial⟩ hX
  | succ k ih =>
    intro n hn hX
    have h702 := hI.2.2.2.2.2.1
    refine R_iload_n dX9_digest_552 rfl rfl ?_
    refine R_aload_n dX9_digest_553 rfl rfl rfl ?_
    refine Zm_gf dX9_digest_554 gf_X9_146 rfl ?_
    rw [hs_ne (by omega), he.1 _ (by omega)]
    refine Z_icmp_ge dX9_digest_557 (by first | exact hI.1 _ | assumption | exact hI1.1 _ | exact hI2.1 _ | exact ⟨by omega, by omega⟩) (by first | exact hI.1 _ | assumption | exact hI1.1 _ | exact hI2.1 _ | exact ⟨by omega, by omega⟩) (tgt := 577) (by decide) (fun c_557 => absurd c_557 (by omega)) (fun c_557 => ?_)
    refine R_aload_n dX9_digest_560 rfl rfl rfl ?_
    refine R_aload_n dX9_digest_561 rfl rfl rfl ?_
    refine Zm_gf dX9_digest_562 gf_X9_19 rfl ?_
    refine R_iload_n dX9_digest_565 rfl rfl ?_
    refine Zm_ld4 dX9_digest_566 (by omega) ?_
    rw [hs_ne (by omega), he.1 _ (by omega)]
    refine Z_i2l dX9_digest_567 (by first | exact hI.1 _ | assumption | exact hI1.1 _ | exact hI2.1 _ | exact ⟨by omega, by omega⟩) ?_
    refine R_cV1 0 dX9_digest_568 rfl cv_X9_214 mh_get0 rfl rfl (Nat.le_of_ble_eq_true rfl) (Nat.zero_le _) (sp_X9_mix  (kq.n ?_))
    refine Z_iinc dX9_digest_571 rfl (by decide) rfl rfl ?_
    refine R_goto dX9_digest_574 (tgt := 552) (by decide) ?_
    exact At.dropS (L' := [some (.ref b), some (.int (zI ((((n + 1) : Nat) : Int)))), none, none]) ⟨rfl, rfl, trivial⟩ (ih (n + 1) (by omega) hX)

theorem lp_digP {Ω : Wd} {d r : Nat} {Q : Hp → Out → Prop} {b : Nat} {h0 : Hp} {σ : St} {φ : St} {g : Int} (he : eqH φ σ) (hI : MI φ) (hB : byP φ) : ∀ (k n : Nat), n + k = (φ 117).toNat → At Ω M_X9_digest (d + 4) r Q 463 [some (.ref b), none, none, none] [] (mh b h0 (hs σ (dgP φ g (φ 117).toNat))) → At Ω M_X9_digest (d + 4) r Q 379 [some (.ref b), some (.int (zI (((n : Nat) : Int)))), none, none] [] (mh b h0 (hs σ (dgP φ g n))) := by
  intro k
  induction k with
  | zero =>
    intro n hn hX
    have hnN : n = (φ 117).toNat := by omega
    rw [hnN]
    have h117 := hI.2.2.1
    have hIs := MI_eqH hI he
    refine R_iload_n dX9_digest_379 rfl rfl ?_
    refine R_aload_n dX9_digest_380 rfl rfl rfl ?_
    refine Zm_gf dX9_digest_381 gf_X9_7 rfl ?_
    refine R_bipush dX9_digest_384 (v := zI (117)) rfl ?_
    refine Zm_ld1 dX9_digest_386 (by omega) ?_
    rw [hs_ne (by omega), he.1 _ (by omega)]
    refine Z_icmp_ge dX9_digest_387 (by first | exact hI.1 _ | assumption | exact hI1.1 _ | exact hI2.1 _ | exact ⟨by omega, by omega⟩) (by first | exact hI.1 _ | assumption | exact hI1.1 _ | exact hI2.1 _ | exact ⟨by omega, by omega⟩) (tgt := 463) (by decide) (fun c_387 => ?_) (fun c_387 => absurd c_387 (by omega))
    exact At.dropS (L' := [some (.ref b), none, none, none]) ⟨rfl, trivial⟩ hX
  | succ k ih =>
    intro n hn hX
    have h117 := hI.2.2.1
    have hIs := MI_eqH hI he
    refine R_iload_n dX9_digest_379 rfl rfl ?_
    refine R_aload_n dX9_digest_380 rfl rfl rfl ?_
    refine Zm_gf dX9_digest_381 gf_X9_7 rfl ?_
    refine R_bipush dX9_digest_384 (v := zI (117)) rfl ?_
    refine Zm_ld1 dX9_digest_386 (by omega) ?_
    rw [hs_ne (by omega), he.1 _ (by omega)]
    refine Z_icmp_ge dX9_digest_387 (by first | exact hI.1 _ | assumption | exact hI1.1 _ | exact hI2.1 _ | exact ⟨by omega, by omega⟩) (by first | exact hI.1 _ | assumption | exact hI1.1 _ | exact hI2.1 _ | exact ⟨by omega, by omega⟩) (tgt := 463) (by decide) (fun c_387 => absurd c_387 (by omega)) (fun c_387 => ?_)
    have hp := hI.2.2.2.2.2.2.2.2 (n : Int) (by omega)
    have hb : φ (118 + 6 * (n : Int) + 4) = 1 → 0 ≤ φ (118 + 6 * (n : Int) + 5) ∧ φ (118 + 6 * (n : Int) + 5) < 4 := fun z => by have := hB n (by omega) (by omega); omega
    refine R_aload_n dX9_digest_390 rfl rfl rfl ?_
    refine z_joinB (φ (118 + 6 * ((n : Nat) : Int) + 4) = 0) 405 ?_ (fun jt_391 jf_391 => ?_)
    · skip
      refine R_cV1 0 dX9_digest_405 rfl cv_X9_220 mh_get0 rfl rfl (Nat.le_of_ble_eq_true rfl) (Nat.zero_le _) (sp_X9_mixes  (kq.n ?_))
      refine R_aload_n dX9_digest_408 rfl rfl rfl ?_
      refine z_joinB (φ (118 + 6 * ((n : Nat) : Int) + 4) = 2) 424 ?_ (fun jt_409 jf_409 => ?_)
      · skip
        refine R_cV1 0 dX9_digest_424 rfl cv_X9_220 mh_get0 rfl rfl (Nat.le_of_ble_eq_true rfl) (Nat.zero_le _) (sp_X9_mixes  (kq.n ?_))
        refine R_aload_n dX9_digest_427 rfl rfl rfl ?_
        refine R_aload_n dX9_digest_428 rfl rfl rfl ?_
        refine R_iload_n dX9_digest_429 rfl rfl ?_
        refine R_cV1 0 dX9_digest_430 rfl cv_X9_179 mh_get0 rfl rfl (Nat.le_of_ble_eq_true rfl) (Nat.zero_le _) (sp_X9_spot (hs_MI hIs _) (by omega) (fun z => by rw [hs_ne (by omega), he.1 _ (by omega)] at z ⊢; exact hb z) (kq.v ?_))
        rw [spotF_cg (he.eqs _) (by omega) hb]
        refine Z_i2l dX9_digest_433 (by unfold spotF; (repeat' split) <;> exact hI.1 _) ?_
        refine R_cV1 0 dX9_digest_434 rfl cv_X9_214 mh_get0 rfl rfl (Nat.le_of_ble_eq_true rfl) (Nat.zero_le _) (sp_X9_mix  (kq.n ?_))
        refine z_joinS [some (.ref b), some (.int (zI (((n : Nat) : Int)))), none, none] (hs σ (if φ (118 + 6 * ((n : Nat) : Int) + 4) = 0 then dgP1 φ ((n : Nat) : Int) (dgP φ g n) else mx (dgP1 φ ((n : Nat) : Int) (dgP φ g n)) (φ (118 + 6 * ((n : Nat) : Int) + 5)))) 457 ?_ (fun js_437 => ?_)
        · skip
          refine Z_iinc dX9_digest_457 rfl (by decide) rfl rfl ?_
          refine R_goto dX9_digest_460 (tgt := 379) (by decide) ?_
          exact At.dropS (L' := [some (.ref b), some (.int (zI ((((n + 1) : Nat) : Int)))), none, none]) ⟨rfl, rfl, trivial⟩ (ih (n + 1) (by omega) hX)
        · skip
          refine R_aload_n dX9_digest_437 rfl rfl rfl ?_
          refine R_iload_n dX9_digest_438 rfl rfl ?_
          refine R_iconst dX9_digest_439 (v := zI (4)) rfl ?_
          refine R_cV2 0 dX9_digest_440 rfl cv_X9_49 mh_get0 rfl rfl (Nat.le_of_ble_eq_true rfl) (Nat.zero_le _) (sp_X9_has (by first | assumption | exact hI.1 _ | exact hI1.1 _ | exact hI2.1 _ | omega | (refine ⟨?_, ?_⟩ <;> omega)) (kq.v ?_))
          rw [hs_ne (by omega), he.1 _ (by omega)]
          refine Z_if_eq dX9_digest_443 (by first | exact hI.1 _ | assumption | exact hI1.1 _ | exact hI2.1 _ | exact ⟨by omega, by omega⟩) (tgt := 457) (by decide) (fun c_443 => ?_) (fun c_443 => ?_)
          · skip
            exact js_437 _ _ (by first | (rw [if_pos c_443]; rfl) | (rw [if_neg c_443]; rfl)) ⟨rfl, rfl, trivial⟩
          · skip
            refine R_aload_n dX9_digest_446 rfl rfl rfl ?_
            refine R_aload_n dX9_digest_447 rfl rfl rfl ?_
            refine R_iload_n dX9_digest_448 rfl rfl ?_
            refine R_iconst dX9_digest_449 (v := zI (5)) rfl ?_
            refine R_cV2 0 dX9_digest_450 rfl cv_X9_49 mh_get0 rfl rfl (Nat.le_of_ble_eq_true rfl) (Nat.zero_le _) (sp_X9_has (by first | assumption | exact hI.1 _ | exact hI1.1 _ | exact hI2.1 _ | omega | (refine ⟨?_, ?_⟩ <;> omega)) (kq.v ?_))
            rw [hs_ne (by omega), he.1 _ (by omega)]
            refine Z_i2l dX9_digest_453 (by first | exact hI.1 _ | assumption | exact hI1.1 _ | exact hI2.1 _ | exact ⟨by omega, by omega⟩) ?_
            refine R_cV1 0 dX9_digest_454 rfl cv_X9_214 mh_get0 rfl rfl (Nat.le_of_ble_eq_true rfl) (Nat.zero_le _) (sp_X9_mix  (kq.n ?_))
            exact js_437 _ _ (by first | (rw [if_pos c_443]; rfl) | (rw [if_neg c_443]; rfl)) ⟨rfl, rfl, trivial⟩
      · skip
        refine R_aload_n dX9_digest_409 rfl rfl rfl ?_
        refine R_iload_n dX9_digest_410 rfl rfl ?_
        refine R_iconst dX9_digest_411 (v := zI (4)) rfl ?_
        refine R_cV2 0 dX9_digest_412 rfl cv_X9_49 mh_get0 rfl rfl (Nat.le_of_ble_eq_true rfl) (Nat.zero_le _) (sp_X9_has (by first | assumption | exact hI.1 _ | exact hI1.1 _ | exact hI2.1 _ | omega | (refine ⟨?_, ?_⟩ <;> omega)) (kq.v ?_))
        rw [hs_ne (by omega), he.1 _ (by omega)]
        refine R_iconst dX9_digest_415 (v := zI (2)) rfl ?_
        refine Z_icmp_ne dX9_digest_416 (by first | exact hI.1 _ | assumption | exact hI1.1 _ | exact hI2.1 _ | exact ⟨by omega, by omega⟩) (by first | exact hI.1 _ | assumption | exact hI1.1 _ | exact hI2.1 _ | exact ⟨by omega, by omega⟩) (tgt := 423) (by decide) (fun c_416 => ?_) (fun c_416 => ?_)
        · skip
          refine R_iconst dX9_digest_423 (v := zI (0)) rfl ?_
          exact jf_409 (by first | assumption | omega | grind | (simp [*]; done) | (simp_all; done))
        · skip
          refine R_iconst dX9_digest_419 (v := zI (1)) rfl ?_
          refine R_goto dX9_digest_420 (tgt := 424) (by decide) ?_
          exact jt_409 (by first | assumption | omega | grind | (simp [*]; done) | (simp_all; done))
    · skip
      refine R_aload_n dX9_digest_391 rfl rfl rfl ?_
      refine R_iload_n dX9_digest_392 rfl rfl ?_
      refine R_iconst dX9_digest_393 (v := zI (4)) rfl ?_
      refine R_cV2 0 dX9_digest_394 rfl cv_X9_49 mh_get0 rfl rfl (Nat.le_of_ble_eq_true rfl) (Nat.zero_le _) (sp_X9_has (by first | assumption | exact hI.1 _ | exact hI1.1 _ | exact hI2.1 _ | omega | (refine ⟨?_, ?_⟩ <;> omega)) (kq.v ?_))
      rw [hs_ne (by omega), he.1 _ (by omega)]
      refine Z_if_ne dX9_digest_397 (by first | exact hI.1 _ | assumption | exact hI1.1 _ | exact hI2.1 _ | exact ⟨by omega, by omega⟩) (tgt := 404) (by decide) (fun c_397 => ?_) (fun c_397 => ?_)
      · skip
        refine R_iconst dX9_digest_404 (v := zI (0)) rfl ?_
        exact jf_391 (by first | assumption | omega | grind | (simp [*]; done) | (simp_all; done))
      · skip
        refine R_iconst dX9_digest_400 (v := zI (1)) rfl ?_
        refine R_goto dX9_digest_401 (tgt := 405) (by decide) ?_
        exact jt_391 (by first | assumption | omega | grind | (simp [*]; done) | (simp_all; done))


theorem lp_digC {Ω : Wd} {d r : Nat} {Q : Hp → Out → Prop} {b : Nat} {h0 : Hp} {φ : St} {G : Int} (hI : MI φ) : ∀ (k n : Nat) (ρ : St), n + k = 4 → eqH φ ρ → (∀ ρ' : St, eqH φ ρ' → At Ω M_X9_digest (d + 4) r Q 377 [some (.ref b), none, none, none] [] (mh b h0 (hs ρ' (dgC φ G 4)))) → At Ω M_X9_digest (d + 4) r Q 210 [some (.ref b), some (.int (zI (n : Int))), none, none] [] (mh b h0 (hs ρ (dgC φ G n))) := by
  intro k
  induction k with
  | zero =>
    intro n ρ hn he hX
    have hnN : n = 4 := by omega
    rw [hnN]
    refine R_iload_n dX9_digest_210 rfl rfl ?_
    refine R_iconst dX9_digest_211 (v := zI (4)) rfl ?_
    refine Z_icmp_ge dX9_digest_212 (by first | exact hI.1 _ | assumption | exact hI1.1 _ | exact hI2.1 _ | exact ⟨by omega, by omega⟩) (by first | exact hI.1 _ | assumption | exact hI1.1 _ | exact hI2.1 _ | exact ⟨by omega, by omega⟩) (tgt := 377) (by decide) (fun c_212 => ?_) (fun c_212 => absurd c_212 (by omega))
    exact At.dropS [some (.ref b), none, none, none] ⟨rfl, trivial⟩ (hX ρ he)
  | succ k ih =>
    intro n ρ hn he hX
    have h7 := hI.2.2.2.2.2.2.1 (n : Int) (by omega)
    have hIs := MI_eqH hI he
    have hl := loadF_bd hI (n : Int)
    have hrb : 0 ≤ reachF φ n ∧ reachF φ n < 1024 := mskS_bd _ 10
    refine R_iload_n dX9_digest_210 rfl rfl ?_
    refine R_iconst dX9_digest_211 (v := zI (4)) rfl ?_
    refine Z_icmp_ge dX9_digest_212 (by first | exact hI.1 _ | assumption | exact hI1.1 _ | exact hI2.1 _ | exact ⟨by omega, by omega⟩) (by first | exact hI.1 _ | assumption | exact hI1.1 _ | exact hI2.1 _ | exact ⟨by omega, by omega⟩) (tgt := 377) (by decide) (fun c_212 => absurd c_212 (by omega)) (fun c_212 => ?_)
    refine R_aload_n dX9_digest_215 rfl rfl rfl ?_
    refine R_aload_n dX9_digest_216 rfl rfl rfl ?_
    refine R_iload_n dX9_digest_217 rfl rfl ?_
    refine R_iconst dX9_digest_218 (v := zI (0)) rfl ?_
    refine R_cV2 0 dX9_digest_219 rfl cv_X9_53 mh_get0 rfl rfl (Nat.le_of_ble_eq_true rfl) (Nat.zero_le _) (sp_X9_of (by first | assumption | exact hI.1 _ | exact hI1.1 _ | exact hI2.1 _ | omega | (refine ⟨?_, ?_⟩ <;> omega)) (kq.v ?_))
    rw [hs_ne (by omega), he.1 _ (by omega)]
    refine Z_i2l dX9_digest_222 (by first | exact hI.1 _ | assumption | exact hI1.1 _ | exact hI2.1 _ | exact ⟨by omega, by omega⟩) ?_
    refine R_cV1 0 dX9_digest_223 rfl cv_X9_214 mh_get0 rfl rfl (Nat.le_of_ble_eq_true rfl) (Nat.zero_le _) (sp_X9_mix  (kq.n ?_))
    refine R_aload_n dX9_digest_226 rfl rfl rfl ?_
    refine z_joinB (φ (97 + 5 * (n : Int) + 1) = 1) 242 ?_ (fun jt_227 jf_227 => ?_)
    · skip
      refine R_cV1 0 dX9_digest_242 rfl cv_X9_220 mh_get0 rfl rfl (Nat.le_of_ble_eq_true rfl) (Nat.zero_le _) (sp_X9_mixes  (kq.n ?_))
      refine R_aload_n dX9_digest_245 rfl rfl rfl ?_
      refine R_aload_n dX9_digest_246 rfl rfl rfl ?_
      refine R_iload_n dX9_digest_247 rfl rfl ?_
      refine R_cV1 0 dX9_digest_248 rfl cv_X9_94 mh_get0 rfl rfl (Nat.le_of_ble_eq_true rfl) (Nat.zero_le _) (sp_X9_load (hs_MI hIs _) ⟨by omega, by omega⟩ (kq.v ?_))
      rw [loadF_cg (he.eqs _) hI]
      refine Z_i2l dX9_digest_251 (by first | exact hI.1 _ | assumption | exact hI1.1 _ | exact hI2.1 _ | exact ⟨by omega, by omega⟩) ?_
      refine R_cV1 0 dX9_digest_252 rfl cv_X9_214 mh_get0 rfl rfl (Nat.le_of_ble_eq_true rfl) (Nat.zero_le _) (sp_X9_mix  (kq.n ?_))
      refine R_aload_n dX9_digest_255 rfl rfl rfl ?_
      refine z_joinB (¬ φ (97 + 5 * (n : Int) + 2) = -1) 271 ?_ (fun jt_256 jf_256 => ?_)
      · skip
        refine R_cV1 0 dX9_digest_271 rfl cv_X9_220 mh_get0 rfl rfl (Nat.le_of_ble_eq_true rfl) (Nat.zero_le _) (sp_X9_mixes  (kq.n ?_))
        refine z_joinS [some (.ref b), some (.int (zI ((n : Int)))), none, none] (hs ρ (dgC2 φ n (dgC φ G n))) 295 ?_ (fun js_274 => ?_)
        · skip
          refine R_aload_n dX9_digest_295 rfl rfl rfl ?_
          refine R_aload_n dX9_digest_296 rfl rfl rfl ?_
          refine R_iload_n dX9_digest_297 rfl rfl ?_
          refine R_iconst dX9_digest_298 (v := zI (3)) rfl ?_
          refine R_cV2 0 dX9_digest_299 rfl cv_X9_53 mh_get0 rfl rfl (Nat.le_of_ble_eq_true rfl) (Nat.zero_le _) (sp_X9_of (by first | assumption | exact hI.1 _ | exact hI1.1 _ | exact hI2.1 _ | omega | (refine ⟨?_, ?_⟩ <;> omega)) (kq.v ?_))
          rw [hs_ne (by omega), he.1 _ (by omega)]
          refine Z_i2l dX9_digest_302 (by first | exact hI.1 _ | assumption | exact hI1.1 _ | exact hI2.1 _ | exact ⟨by omega, by omega⟩) ?_
          refine R_cV1 0 dX9_digest_303 rfl cv_X9_214 mh_get0 rfl rfl (Nat.le_of_ble_eq_true rfl) (Nat.zero_le _) (sp_X9_mix  (kq.n ?_))
          refine R_aload_n dX9_digest_306 rfl rfl rfl ?_
          refine R_aload_n dX9_digest_307 rfl rfl rfl ?_
          refine R_iload_n dX9_digest_308 rfl rfl ?_
          refine R_iconst dX9_digest_309 (v := zI (4)) rfl ?_
          refine R_cV2 0 dX9_digest_310 rfl cv_X9_53 mh_get0 rfl rfl (Nat.le_of_ble_eq_true rfl) (Nat.zero_le _) (sp_X9_of (by first | assumption | exact hI.1 _ | exact hI1.1 _ | exact hI2.1 _ | omega | (refine ⟨?_, ?_⟩ <;> omega)) (kq.v ?_))
          rw [hs_ne (by omega), he.1 _ (by omega)]
          refine Z_i2l dX9_digest_313 (by first | exact hI.1 _ | assumption | exact hI1.1 _ | exact hI2.1 _ | exact ⟨by omega, by omega⟩) ?_
          refine R_cV1 0 dX9_digest_314 rfl cv_X9_214 mh_get0 rfl rfl (Nat.le_of_ble_eq_true rfl) (Nat.zero_le _) (sp_X9_mix  (kq.n ?_))
          show At Ω _ _ _ _ _ _ _ (mh b h0 (hs ρ (dgC3 φ n (dgC φ G n))))
          refine R_aload_n dX9_digest_317 rfl rfl rfl ?_
          refine R_iload_n dX9_digest_318 rfl rfl ?_
          refine R_cV1 0 dX9_digest_319 rfl cv_X9_189 mh_get0 rfl rfl (Nat.le_of_ble_eq_true rfl) (Nat.zero_le _) (sp_X9_reached (hs_MI hIs _) (by omega) (kq.v ?_))
          obtain ⟨ρ2, hρ2⟩ : ∃ ρ2, sprF (hs ρ (dgC3 φ n (dgC φ G n))) n (hs ρ (dgC3 φ n (dgC φ G n)) (97 + 5 * (n : Int) + 0)) = ρ2 := ⟨_, rfl⟩
          have hq := eqF_spr (hs_MI hIs (dgC3 φ n (dgC φ G n))) (n : Int) (hs ρ (dgC3 φ n (dgC φ G n)) (97 + 5 * (n : Int) + 0))
          rw [hρ2] at hq
          have he2 : eqH φ ρ2 := ⟨fun x hx => by rw [hq.1 x (by omega), hs_ne (by omega), he.1 x hx], hq.2⟩
          have e2 : hs ρ2 (dgC3 φ n (dgC φ G n)) = ρ2 := by
            funext x
            by_cases e : x = 706 ∨ x = 707
            · rw [hq.1 x (by omega)]; rcases e with e | e <;> subst e <;> rfl
            · exact hs_ne (by omega)
          have er : reachF (hs ρ (dgC3 φ n (dgC φ G n))) n = reachF φ n := reachF_cg (he.eqs _) hI (by omega)
          have ef : ∀ j : Int, 0 ≤ j ∧ j < 10 → ρ2 (730 + j) = farF φ n (φ (97 + 5 * (n : Int) + 0)) j := fun j hj => by
            rw [← hρ2, he.eqs _ _ (by omega)]
            exact farF_cg (he.eqs _) hI (by omega) hj
          show At Ω _ _ _ _ _ _ _ (mh b h0 (sprF (hs ρ (dgC3 φ n (dgC φ G n))) n (hs ρ (dgC3 φ n (dgC φ G n)) (97 + 5 * (n : Int) + 0))))
          rw [hρ2, er, ← e2]
          refine R_istore_n dX9_digest_322 rfl (by decide) rfl rfl ?_
          refine R_aload_n dX9_digest_323 rfl rfl rfl ?_
          refine R_iload_n dX9_digest_324 rfl rfl ?_
          refine Z_i2l dX9_digest_325 ⟨by omega, by omega⟩ ?_
          refine R_cV1 0 dX9_digest_326 rfl cv_X9_214 mh_get0 rfl rfl (Nat.le_of_ble_eq_true rfl) (Nat.zero_le _) (sp_X9_mix  (kq.n ?_))
          refine R_aload_n dX9_digest_329 rfl rfl rfl ?_
          refine R_iload_n dX9_digest_330 rfl rfl ?_
          refine Z_i2l dX9_digest_331 ⟨by omega, by omega⟩ ?_
          refine R_cV1 0 dX9_digest_332 rfl cv_X9_214 mh_get0 rfl rfl (Nat.le_of_ble_eq_true rfl) (Nat.zero_le _) (sp_X9_mix  (kq.n ?_))
          refine R_aload_n dX9_digest_335 rfl rfl rfl ?_
          refine R_aload_n dX9_digest_336 rfl rfl rfl ?_
          refine Zm_gf dX9_digest_337 gf_X9_22 rfl ?_
          refine R_iload_n dX9_digest_340 rfl rfl ?_
          refine Zm_ld5 dX9_digest_341 (by omega) ?_
          rw [hs_ne (by omega), he2.1 _ (by omega)]
          refine Z_i2l dX9_digest_342 (by first | exact hI.1 _ | assumption | exact hI1.1 _ | exact hI2.1 _ | exact ⟨by omega, by omega⟩) ?_
          refine R_cV1 0 dX9_digest_343 rfl cv_X9_214 mh_get0 rfl rfl (Nat.le_of_ble_eq_true rfl) (Nat.zero_le _) (sp_X9_mix  (kq.n ?_))
          refine R_iconst dX9_digest_346 (v := zI (0)) rfl ?_
          refine R_istore_n dX9_digest_347 rfl (by decide) rfl rfl ?_
          refine At.dropS (L' := [some (.ref b), some (.int (zI (((n : Int))))), none, some (.int (zI (((0 : Nat) : Int))))]) ⟨rfl, rfl, rfl, trivial⟩ (lp_digF (σ := ρ2) (g := dgC4 φ n (dgC φ G n)) he2.2 _ 0 (Nat.zero_add _) ?_)
          refine Z_iinc dX9_digest_371 rfl (by decide) rfl rfl ?_
          refine R_goto dX9_digest_374 (tgt := 210) (by decide) ?_
          rw [dgF_cg _ 10 (fun x hx => ef x (by omega))]
          exact At.dropS [some (.ref b), some (.int (zI ((n + 1 : Nat) : Int))), none, none] ⟨rfl, rfl, trivial⟩ (ih (n + 1) ρ2 (by omega) he2 hX)
        · skip
          refine R_aload_n dX9_digest_274 rfl rfl rfl ?_
          refine R_iload_n dX9_digest_275 rfl rfl ?_
          refine R_iconst dX9_digest_276 (v := zI (2)) rfl ?_
          refine R_cV2 0 dX9_digest_277 rfl cv_X9_53 mh_get0 rfl rfl (Nat.le_of_ble_eq_true rfl) (Nat.zero_le _) (sp_X9_of (by first | assumption | exact hI.1 _ | exact hI1.1 _ | exact hI2.1 _ | omega | (refine ⟨?_, ?_⟩ <;> omega)) (kq.v ?_))
          rw [hs_ne (by omega), he.1 _ (by omega)]
          refine R_iconst dX9_digest_280 (v := zI (-1)) rfl ?_
          refine Z_icmp_eq dX9_digest_281 (by first | exact hI.1 _ | assumption | exact hI1.1 _ | exact hI2.1 _ | exact ⟨by omega, by omega⟩) (by first | exact hI.1 _ | assumption | exact hI1.1 _ | exact hI2.1 _ | exact ⟨by omega, by omega⟩) (tgt := 295) (by decide) (fun c_281 => ?_) (fun c_281 => ?_)
          · skip
            exact js_274 _ _ (by unfold dgC2; first | (rw [if_pos c_281]; rfl) | (rw [if_neg c_281]; rfl)) ⟨rfl, rfl, trivial⟩
          · skip
            refine R_aload_n dX9_digest_284 rfl rfl rfl ?_
            refine R_aload_n dX9_digest_285 rfl rfl rfl ?_
            refine R_iload_n dX9_digest_286 rfl rfl ?_
            refine R_iconst dX9_digest_287 (v := zI (2)) rfl ?_
            refine R_cV2 0 dX9_digest_288 rfl cv_X9_53 mh_get0 rfl rfl (Nat.le_of_ble_eq_true rfl) (Nat.zero_le _) (sp_X9_of (by first | assumption | exact hI.1 _ | exact hI1.1 _ | exact hI2.1 _ | omega | (refine ⟨?_, ?_⟩ <;> omega)) (kq.v ?_))
            rw [hs_ne (by omega), he.1 _ (by omega)]
            refine Z_i2l dX9_digest_291 (by first | exact hI.1 _ | assumption | exact hI1.1 _ | exact hI2.1 _ | exact ⟨by omega, by omega⟩) ?_
            refine R_cV1 0 dX9_digest_292 rfl cv_X9_214 mh_get0 rfl rfl (Nat.le_of_ble_eq_true rfl) (Nat.zero_le _) (sp_X9_mix  (kq.n ?_))
            exact js_274 _ _ (by unfold dgC2; first | (rw [if_pos c_281]; rfl) | (rw [if_neg c_281]; rfl)) ⟨rfl, rfl, trivial⟩
      · skip
        refine R_aload_n dX9_digest_256 rfl rfl rfl ?_
        refine R_iload_n dX9_digest_257 rfl rfl ?_
        refine R_iconst dX9_digest_258 (v := zI (2)) rfl ?_
        refine R_cV2 0 dX9_digest_259 rfl cv_X9_53 mh_get0 rfl rfl (Nat.le_of_ble_eq_true rfl) (Nat.zero_le _) (sp_X9_of (by first | assumption | exact hI.1 _ | exact hI1.1 _ | exact hI2.1 _ | omega | (refine ⟨?_, ?_⟩ <;> omega)) (kq.v ?_))
        rw [hs_ne (by omega), he.1 _ (by omega)]
        refine R_iconst dX9_digest_262 (v := zI (-1)) rfl ?_
        refine Z_icmp_eq dX9_digest_263 (by first | exact hI.1 _ | assumption | exact hI1.1 _ | exact hI2.1 _ | exact ⟨by omega, by omega⟩) (by first | exact hI.1 _ | assumption | exact hI1.1 _ | exact hI2.1 _ | exact ⟨by omega, by omega⟩) (tgt := 270) (by decide) (fun c_263 => ?_) (fun c_263 => ?_)
        · skip
          refine R_iconst dX9_digest_270 (v := zI (0)) rfl ?_
          exact jf_256 (by first | assumption | omega | grind | (simp [*]; done) | (simp_all; done))
        · skip
          refine R_iconst dX9_digest_266 (v := zI (1)) rfl ?_
          refine R_goto dX9_digest_267 (tgt := 271) (by decide) ?_
          exact jt_256 (by first | assumption | omega | grind | (simp [*]; done) | (simp_all; done))
    · skip
      refine R_aload_n dX9_digest_227 rfl rfl rfl ?_
      refine R_iload_n dX9_digest_228 rfl rfl ?_
      refine R_iconst dX9_digest_229 (v := zI (1)) rfl ?_
      refine R_cV2 0 dX9_digest_230 rfl cv_X9_53 mh_get0 rfl rfl (Nat.le_of_ble_eq_true rfl) (Nat.zero_le _) (sp_X9_of (by first | assumption | exact hI.1 _ | exact hI1.1 _ | exact hI2.1 _ | omega | (refine ⟨?_, ?_⟩ <;> omega)) (kq.v ?_))
      rw [hs_ne (by omega), he.1 _ (by omega)]
      refine R_iconst dX9_digest_233 (v := zI (1)) rfl ?_
      refine Z_icmp_ne dX9_digest_234 (by first | exact hI.1 _ | assumption | exact hI1.1 _ | exact hI2.1 _ | exact ⟨by omega, by omega⟩) (by first | exact hI.1 _ | assumption | exact hI1.1 _ | exact hI2.1 _ | exact ⟨by omega, by omega⟩) (tgt := 241) (by decide) (fun c_234 => ?_) (fun c_234 => ?_)
      · skip
        refine R_iconst dX9_digest_241 (v := zI (0)) rfl ?_
        exact jf_227 (by first | assumption | omega | grind | (simp [*]; done) | (simp_all; done))
      · skip
        refine R_iconst dX9_digest_237 (v := zI (1)) rfl ?_
        refine R_goto dX9_digest_238 (tgt := 242) (by decide) ?_
        exact jt_227 (by first | assumption | omega | grind | (simp [*]; done) | (simp_all; done))


theorem unlS_bd (σ : St) : ∀ n : Nat, 0 ≤ unlS σ n ∧ unlS σ n ≤ n
  | 0 => by simp [unlS]
  | n + 1 => by
    have := unlS_bd σ n
    have h2 := b2i_rg (newS σ n n)
    unfold unlS
    omega
theorem unlF_bd {σ : St} (hI : MI σ) : 0 ≤ unlF σ ∧ unlF σ ≤ 61 := by
  have h174 := hI.2.2.2.1
  have := unlS_bd σ (σ 174).toNat
  unfold unlF
  omega
theorem dig_377 {Ω : Wd} {d r : Nat} {Q : Hp → Out → Prop} {b : Nat} {h0 : Hp} {φ ρ : St} (hI : MI φ) (he : eqH φ ρ) (hB : byP φ) (hQ : Q (mh b h0 (hs ρ (digF φ))) (.inl (some (.long (zL (digF φ)))))) : At Ω M_X9_digest (d + 4) r Q 377 [some (.ref b), none, none, none] [] (mh b h0 (hs ρ (dgC φ (dgB φ (dgA φ) (φ 0).toNat) 4))) := by
  have hIs := MI_eqH hI he
  obtain ⟨mb1, mb2⟩ := mbF_some hI
  have sb1 := sbF_some hI
  refine R_iconst dX9_digest_377 (v := zI (0)) rfl ?_
  refine R_istore_n dX9_digest_378 rfl (by decide) rfl rfl ?_
  refine At.dropS (L' := [some (.ref b), some (.int (zI (((0 : Nat) : Int)))), none, none]) ⟨rfl, rfl, trivial⟩ (lp_digP (σ := ρ) (φ := φ) (g := dgC φ (dgB φ (dgA φ) (φ 0).toNat) 4) he hI hB _ 0 (Nat.zero_add _) ?_)
  refine R_aload_n dX9_digest_463 rfl rfl rfl ?_
  refine z_joinB (φ 172 = 1) 481 ?_ (fun jt_464 jf_464 => ?_)
  · skip
    refine R_cV1 0 dX9_digest_481 rfl cv_X9_220 mh_get0 rfl rfl (Nat.le_of_ble_eq_true rfl) (Nat.zero_le _) (sp_X9_mixes  (kq.n ?_))
    refine z_joinS [some (.ref b), none, none, none] (hs ρ (dgS φ (dgP φ (dgC φ (dgB φ (dgA φ) (φ 0).toNat) 4) (φ 117).toNat))) 509 ?_ (fun js_484 => ?_)
    · skip
      refine R_aload_n dX9_digest_509 rfl rfl rfl ?_
      refine R_aload_n dX9_digest_510 rfl rfl rfl ?_
      refine R_cV0 0 dX9_digest_511 rfl cv_X9_196 mh_get0 rfl rfl (Nat.le_of_ble_eq_true rfl) (Nat.zero_le _) (sp_X9_mean (hs_MI hIs _) (kq.v ?_))
      rw [meanF_cg (he.eqs _) hI]
      refine R_f2d dX9_digest_514 (n64_of mb2) ?_
      refine R_bipush dX9_digest_515 (v := zI (23)) rfl ?_
      refine R_bipush dX9_digest_517 (v := zI (127)) rfl ?_
      refine R_cS3 0 dX9_digest_519 rfl cs_X9_224 (Nat.le_of_ble_eq_true rfl) (Nat.zero_le _) (sp_X9_bitsOf (w := 23) (e := 127) (z := mbF φ) (by omega) (by omega) mb1 (kq.v ?_))
      refine R_cV1 0 dX9_digest_522 rfl cv_X9_214 mh_get0 rfl rfl (Nat.le_of_ble_eq_true rfl) (Nat.zero_le _) (sp_X9_mix  (kq.n ?_))
      refine R_aload_n dX9_digest_525 rfl rfl rfl ?_
      refine R_aload_n dX9_digest_526 rfl rfl rfl ?_
      refine R_cV0 0 dX9_digest_527 rfl cv_X9_200 mh_get0 rfl rfl (Nat.le_of_ble_eq_true rfl) (Nat.zero_le _) (sp_X9_share (hs_MI hIs _) (kq.v ?_))
      rw [shareF_cg (he.eqs _) hI]
      refine R_bipush dX9_digest_530 (v := zI (52)) rfl ?_
      refine R_sipush dX9_digest_532 (v := zI (1023)) rfl ?_
      refine R_cS3 0 dX9_digest_535 rfl cs_X9_224 (Nat.le_of_ble_eq_true rfl) (Nat.zero_le _) (sp_X9_bitsOf (w := 52) (e := 1023) (z := sbF φ) (by omega) (by omega) sb1 (kq.v ?_))
      refine R_cV1 0 dX9_digest_538 rfl cv_X9_214 mh_get0 rfl rfl (Nat.le_of_ble_eq_true rfl) (Nat.zero_le _) (sp_X9_mix  (kq.n ?_))
      refine R_aload_n dX9_digest_541 rfl rfl rfl ?_
      refine R_aload_n dX9_digest_542 rfl rfl rfl ?_
      refine Zm_gf dX9_digest_543 gf_X9_146 rfl ?_
      rw [hs_ne (by omega), he.1 _ (by omega)]
      refine Z_i2l dX9_digest_546 (hI.1 _) ?_
      refine R_cV1 0 dX9_digest_547 rfl cv_X9_214 mh_get0 rfl rfl (Nat.le_of_ble_eq_true rfl) (Nat.zero_le _) (sp_X9_mix  (kq.n ?_))
      refine R_iconst dX9_digest_550 (v := zI (0)) rfl ?_
      refine R_istore_n dX9_digest_551 rfl (by decide) rfl rfl ?_
      refine At.dropS (L' := [some (.ref b), some (.int (zI (((0 : Nat) : Int)))), none, none]) ⟨rfl, rfl, trivial⟩ (lp_digL (σ := ρ) (φ := φ) (g := mx (mx (mx (dgS φ (dgP φ (dgC φ (dgB φ (dgA φ) (φ 0).toNat) 4) (φ 117).toNat)) (mbF φ)) (sbF φ)) (φ 702)) he hI _ 0 (Nat.zero_add _) ?_)
      refine R_aload_n dX9_digest_577 rfl rfl rfl ?_
      refine Zm_gh dX9_digest_578 gf_X9_210 ?_
      refine Z_retL dX9_digest_581 rfl ?_
      exact hQ
    · skip
      refine R_aload_n dX9_digest_484 rfl rfl rfl ?_
      refine Zm_gf dX9_digest_485 gf_X9_7 rfl ?_
      refine R_sipush dX9_digest_488 (v := zI (172)) rfl ?_
      refine Zm_ld1 dX9_digest_491 (by omega) ?_
      rw [hs_ne (by omega), he.1 _ (by omega)]
      refine R_iconst dX9_digest_492 (v := zI (1)) rfl ?_
      refine Z_icmp_ne dX9_digest_493 (by first | exact hI.1 _ | assumption | exact hI1.1 _ | exact hI2.1 _ | exact ⟨by omega, by omega⟩) (by first | exact hI.1 _ | assumption | exact hI1.1 _ | exact hI2.1 _ | exact ⟨by omega, by omega⟩) (tgt := 509) (by decide) (fun c_493 => ?_) (fun c_493 => ?_)
      · skip
        exact js_484 _ _ (by unfold dgS; first | (rw [if_pos c_493]) | (rw [if_neg c_493])) ⟨rfl, trivial⟩
      · skip
        refine R_aload_n dX9_digest_496 rfl rfl rfl ?_
        refine R_aload_n dX9_digest_497 rfl rfl rfl ?_
        refine Zm_gf dX9_digest_498 gf_X9_7 rfl ?_
        refine R_sipush dX9_digest_501 (v := zI (173)) rfl ?_
        refine Zm_ld1 dX9_digest_504 (by omega) ?_
        rw [hs_ne (by omega), he.1 _ (by omega)]
        refine Z_i2l dX9_digest_505 (hI.1 _) ?_
        refine R_cV1 0 dX9_digest_506 rfl cv_X9_214 mh_get0 rfl rfl (Nat.le_of_ble_eq_true rfl) (Nat.zero_le _) (sp_X9_mix  (kq.n ?_))
        exact js_484 _ _ (by unfold dgS; first | (rw [if_pos c_493]) | (rw [if_neg c_493])) ⟨rfl, trivial⟩
  · skip
    refine R_aload_n dX9_digest_464 rfl rfl rfl ?_
    refine Zm_gf dX9_digest_465 gf_X9_7 rfl ?_
    refine R_sipush dX9_digest_468 (v := zI (172)) rfl ?_
    refine Zm_ld1 dX9_digest_471 (by omega) ?_
    rw [hs_ne (by omega), he.1 _ (by omega)]
    refine R_iconst dX9_digest_472 (v := zI (1)) rfl ?_
    refine Z_icmp_ne dX9_digest_473 (by first | exact hI.1 _ | assumption | exact hI1.1 _ | exact hI2.1 _ | exact ⟨by omega, by omega⟩) (by first | exact hI.1 _ | assumption | exact hI1.1 _ | exact hI2.1 _ | exact ⟨by omega, by omega⟩) (tgt := 480) (by decide) (fun c_473 => ?_) (fun c_473 => ?_)
    · skip
      refine R_iconst dX9_digest_480 (v := zI (0)) rfl ?_
      exact jf_464 (by first | assumption | omega | grind | (simp [*]; done) | (simp_all; done))
    · skip
      refine R_iconst dX9_digest_476 (v := zI (1)) rfl ?_
      refine R_goto dX9_digest_477 (tgt := 481) (by decide) ?_
      exact jt_464 (by first | assumption | omega | grind | (simp [*]; done) | (simp_all; done))

theorem sp_X9_digest {Ω : Wd} {d r : Nat} {Q : Hp → Out → Prop} {b : Nat} {h0 : Hp} {σ : St} {τ : St} (hτ : us σ 703 0 = τ) (hI : MI τ) (hB : byP τ) (hE : endS (f0S τ 4) 5) (hQ : ∀ ρ : St, eqH (forF τ) ρ → Q (mh b h0 (hs ρ (digF (forF τ)))) (.inl (some (.long (zL (digF (forF τ))))))) : Ok Ω M_X9_digest (d + 4) r [.ref b] (mh b h0 (σ)) Q := by
  refine Ok.of (by decide) rfl (Nat.le_of_ble_eq_true rfl) rfl ?_
  obtain ⟨⟨hIf, -, hff⟩, hfo⟩ := forF_inv hI
  have h702 := hIf.2.2.2.2.2.1
  have h117 := hIf.2.2.1
  have h00 := hIf.2.1
  have hBf : byP (forF τ) := fun p hp z => by have e1 := hfo 117 (by omega); rw [hfo (118 + 6 * p + 4) (by omega)] at z; rw [hfo (118 + 6 * p + 5) (by omega)]; exact hB p (by omega) z
  obtain ⟨φ, hφ⟩ : ∃ φ, forF τ = φ := ⟨_, rfl⟩
  rw [hφ] at hIf hff hfo h702 h117 h00 hBf hQ
  have hb1 := firF_bd hIf
  have hb2 := secF_bd hIf
  have hb3 := timF_bd hIf (firF φ) (secF φ)
  have hb4 := overF_bd φ
  have hb5 : 0 ≤ unlF φ ∧ unlF φ ≤ 61 := unlF_bd hIf
  have he0 : eqH φ φ := ⟨fun _ _ => rfl, hIf.1⟩
  refine R_aload_n dX9_digest_0 rfl rfl rfl ?_
  refine R_iconst dX9_digest_1 (v := zI (0)) rfl ?_
  refine Zm_pf7 dX9_digest_2 pf_X9_38 ?_
  rw [hτ]
  refine R_aload_n dX9_digest_5 rfl rfl rfl ?_
  refine R_cV0 0 dX9_digest_6 rfl cv_X9_112 mh_get0 rfl rfl (Nat.le_of_ble_eq_true rfl) (Nat.zero_le _) (sp_X9_foretells (by first | assumption | exact hI.1 _ | exact hI1.1 _ | exact hI2.1 _ | omega | (refine ⟨?_, ?_⟩ <;> omega)) (by first | assumption | exact hI.1 _ | exact hI1.1 _ | exact hI2.1 _ | omega | (refine ⟨?_, ?_⟩ <;> omega)) (kq.n ?_))
  rw [hφ]
  refine R_aload_n dX9_digest_9 rfl rfl rfl ?_
  refine R_ldc2 dX9_digest_10 (v := zL 4357) q2782 ?_
  refine Zm_pf13 dX9_digest_13 pf_X9_210 ?_
  refine R_aload_n dX9_digest_16 rfl rfl rfl ?_
  refine R_aload_n dX9_digest_17 rfl rfl rfl ?_
  refine Zm_gf dX9_digest_18 gf_X9_7 rfl ?_
  refine R_iconst dX9_digest_21 (v := zI (0)) rfl ?_
  refine Zm_ld1 dX9_digest_22 (by omega) ?_
  rw [hs_ne (by omega)]
  refine Z_i2l dX9_digest_23 (hIf.1 _) ?_
  refine R_cV1 0 dX9_digest_24 rfl cv_X9_214 mh_get0 rfl rfl (Nat.le_of_ble_eq_true rfl) (Nat.zero_le _) (sp_X9_mix  (kq.n ?_))
  refine R_aload_n dX9_digest_27 rfl rfl rfl ?_
  refine R_aload_n dX9_digest_28 rfl rfl rfl ?_
  refine Zm_gf dX9_digest_29 gf_X9_7 rfl ?_
  refine R_bipush dX9_digest_32 (v := zI (117)) rfl ?_
  refine Zm_ld1 dX9_digest_34 (by omega) ?_
  rw [hs_ne (by omega)]
  refine Z_i2l dX9_digest_35 (hIf.1 _) ?_
  refine R_cV1 0 dX9_digest_36 rfl cv_X9_214 mh_get0 rfl rfl (Nat.le_of_ble_eq_true rfl) (Nat.zero_le _) (sp_X9_mix  (kq.n ?_))
  refine R_aload_n dX9_digest_39 rfl rfl rfl ?_
  refine R_aload_n dX9_digest_40 rfl rfl rfl ?_
  refine Zm_gf dX9_digest_41 gf_X9_7 rfl ?_
  refine R_sipush dX9_digest_44 (v := zI (168)) rfl ?_
  refine Zm_ld1 dX9_digest_47 (by omega) ?_
  rw [hs_ne (by omega)]
  refine Z_i2l dX9_digest_48 (hIf.1 _) ?_
  refine R_cV1 0 dX9_digest_49 rfl cv_X9_214 mh_get0 rfl rfl (Nat.le_of_ble_eq_true rfl) (Nat.zero_le _) (sp_X9_mix  (kq.n ?_))
  refine R_aload_n dX9_digest_52 rfl rfl rfl ?_
  refine R_aload_n dX9_digest_53 rfl rfl rfl ?_
  refine Zm_gf dX9_digest_54 gf_X9_7 rfl ?_
  refine R_sipush dX9_digest_57 (v := zI (169)) rfl ?_
  refine Zm_ld1 dX9_digest_60 (by omega) ?_
  rw [hs_ne (by omega)]
  refine Z_i2l dX9_digest_61 (hIf.1 _) ?_
  refine R_cV1 0 dX9_digest_62 rfl cv_X9_214 mh_get0 rfl rfl (Nat.le_of_ble_eq_true rfl) (Nat.zero_le _) (sp_X9_mix  (kq.n ?_))
  refine R_aload_n dX9_digest_65 rfl rfl rfl ?_
  refine R_aload_n dX9_digest_66 rfl rfl rfl ?_
  refine R_aload_n dX9_digest_67 rfl rfl rfl ?_
  refine R_cV0 0 dX9_digest_68 rfl cv_X9_64 mh_get0 rfl rfl (Nat.le_of_ble_eq_true rfl) (Nat.zero_le _) (sp_X9_first (hs_MI hIf _) (kq.v ?_))
  refine R_aload_n dX9_digest_71 rfl rfl rfl ?_
  refine R_cV0 0 dX9_digest_72 rfl cv_X9_68 mh_get0 rfl rfl (Nat.le_of_ble_eq_true rfl) (Nat.zero_le _) (sp_X9_second (hs_MI hIf _) (kq.v ?_))
  rw [firF_cg (eqs_hs _ _), secF_cg (eqs_hs _ _)]
  refine R_cV2 0 dX9_digest_75 rfl cv_X9_71 mh_get0 rfl rfl (Nat.le_of_ble_eq_true rfl) (Nat.zero_le _) (sp_X9_timesOf (hs_MI hIf _) ⟨by omega, by omega⟩ ⟨by omega, by omega⟩ (kq.v ?_))
  rw [timF_cg (eqs_hs _ _) hIf]
  refine Z_i2l dX9_digest_78 (by first | exact hI.1 _ | assumption | exact hI1.1 _ | exact hI2.1 _ | exact ⟨by omega, by omega⟩) ?_
  refine R_cV1 0 dX9_digest_79 rfl cv_X9_214 mh_get0 rfl rfl (Nat.le_of_ble_eq_true rfl) (Nat.zero_le _) (sp_X9_mix  (kq.n ?_))
  refine R_aload_n dX9_digest_82 rfl rfl rfl ?_
  refine R_aload_n dX9_digest_83 rfl rfl rfl ?_
  refine R_cV0 0 dX9_digest_84 rfl cv_X9_182 mh_get0 rfl rfl (Nat.le_of_ble_eq_true rfl) (Nat.zero_le _) (sp_X9_unlike (hs_MI hIf _) (kq.v ?_))
  rw [unlF_cg (eqs_hs _ _) hIf]
  refine Z_i2l dX9_digest_87 (by first | exact hI.1 _ | assumption | exact hI1.1 _ | exact hI2.1 _ | exact ⟨by omega, by omega⟩) ?_
  refine R_cV1 0 dX9_digest_88 rfl cv_X9_214 mh_get0 rfl rfl (Nat.le_of_ble_eq_true rfl) (Nat.zero_le _) (sp_X9_mix  (kq.n ?_))
  refine R_aload_n dX9_digest_91 rfl rfl rfl ?_
  refine R_aload_n dX9_digest_92 rfl rfl rfl ?_
  refine R_cV0 0 dX9_digest_93 rfl cv_X9_74 mh_get0 rfl rfl (Nat.le_of_ble_eq_true rfl) (Nat.zero_le _) (sp_X9_over (hs_MI hIf _) (kq.v ?_))
  rw [overF_cg (eqs_hs _ _) hIf]
  refine Z_i2l dX9_digest_96 (by first | exact hI.1 _ | assumption | exact hI1.1 _ | exact hI2.1 _ | exact ⟨by omega, by omega⟩) ?_
  refine R_cV1 0 dX9_digest_97 rfl cv_X9_214 mh_get0 rfl rfl (Nat.le_of_ble_eq_true rfl) (Nat.zero_le _) (sp_X9_mix  (kq.n ?_))
  refine R_aload_n dX9_digest_100 rfl rfl rfl ?_
  refine R_aload_n dX9_digest_101 rfl rfl rfl ?_
  refine Zm_gf dX9_digest_102 gf_X9_7 rfl ?_
  refine R_sipush dX9_digest_105 (v := zI (170)) rfl ?_
  refine Zm_ld1 dX9_digest_108 (by omega) ?_
  rw [hs_ne (by omega)]
  refine Z_i2l dX9_digest_109 (hIf.1 _) ?_
  refine R_cV1 0 dX9_digest_110 rfl cv_X9_214 mh_get0 rfl rfl (Nat.le_of_ble_eq_true rfl) (Nat.zero_le _) (sp_X9_mix  (kq.n ?_))
  refine R_aload_n dX9_digest_113 rfl rfl rfl ?_
  refine R_aload_n dX9_digest_114 rfl rfl rfl ?_
  refine Zm_gf dX9_digest_115 gf_X9_7 rfl ?_
  refine R_sipush dX9_digest_118 (v := zI (170)) rfl ?_
  refine Zm_ld1 dX9_digest_121 (by omega) ?_
  rw [hs_ne (by omega)]
  refine Z_i2l dX9_digest_122 (hIf.1 _) ?_
  refine R_cV1 0 dX9_digest_123 rfl cv_X9_214 mh_get0 rfl rfl (Nat.le_of_ble_eq_true rfl) (Nat.zero_le _) (sp_X9_mix  (kq.n ?_))
  refine R_aload_n dX9_digest_126 rfl rfl rfl ?_
  refine R_aload_n dX9_digest_127 rfl rfl rfl ?_
  refine Zm_gf dX9_digest_128 gf_X9_7 rfl ?_
  refine R_sipush dX9_digest_131 (v := zI (171)) rfl ?_
  refine Zm_ld1 dX9_digest_134 (by omega) ?_
  rw [hs_ne (by omega)]
  refine Z_i2l dX9_digest_135 (hIf.1 _) ?_
  refine R_cV1 0 dX9_digest_136 rfl cv_X9_214 mh_get0 rfl rfl (Nat.le_of_ble_eq_true rfl) (Nat.zero_le _) (sp_X9_mix  (kq.n ?_))
  refine R_aload_n dX9_digest_139 rfl rfl rfl ?_
  refine R_aload_n dX9_digest_140 rfl rfl rfl ?_
  refine Zm_gf dX9_digest_141 gf_X9_7 rfl ?_
  refine R_sipush dX9_digest_144 (v := zI (171)) rfl ?_
  refine Zm_ld1 dX9_digest_147 (by omega) ?_
  rw [hs_ne (by omega)]
  refine Z_i2l dX9_digest_148 (hIf.1 _) ?_
  refine R_cV1 0 dX9_digest_149 rfl cv_X9_214 mh_get0 rfl rfl (Nat.le_of_ble_eq_true rfl) (Nat.zero_le _) (sp_X9_mix  (kq.n ?_))
  refine R_aload_n dX9_digest_152 rfl rfl rfl ?_
  refine R_aload_n dX9_digest_153 rfl rfl rfl ?_
  refine Zm_gf dX9_digest_154 gf_X9_46 rfl ?_
  rw [hs_ne (by omega)]
  refine Z_i2l dX9_digest_157 (hIf.1 _) ?_
  refine R_cV1 0 dX9_digest_158 rfl cv_X9_214 mh_get0 rfl rfl (Nat.le_of_ble_eq_true rfl) (Nat.zero_le _) (sp_X9_mix  (kq.n ?_))
  refine R_iconst dX9_digest_161 (v := zI (0)) rfl ?_
  refine R_istore_n dX9_digest_162 rfl (by decide) rfl rfl ?_
  refine At.dropS (L' := [some (.ref b), some (.int (zI (((0 : Nat) : Int)))), none, none]) ⟨rfl, rfl, trivial⟩ (lp_digB (σ := φ) (g := dgA φ) hIf _ 0 (Nat.zero_add _) ?_)
  refine R_iconst dX9_digest_208 (v := zI (0)) rfl ?_
  refine R_istore_n dX9_digest_209 rfl (by decide) rfl rfl ?_
  refine At.dropS [some (.ref b), some (.int (zI ((0 : Nat) : Int))), none, none] ⟨rfl, rfl, trivial⟩ (lp_digC hIf 4 0 φ (by omega) he0 (fun ρ he => ?_))
  exact dig_377 hIf he hBf (hQ ρ he)


