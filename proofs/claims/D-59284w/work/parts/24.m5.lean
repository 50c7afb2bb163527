/-! the model: what changes it -/
set_option maxRecDepth 100000
def shfS (σ : St) : Nat → St
  | 0 => σ
  | n + 1 => us (shfS σ n) (1000 + (n : Int)) (shfS σ n (1000 + (299 + (n : Int))))
def cpyS (σ : St) : Nat → St
  | 0 => σ
  | n + 1 => us (cpyS σ n) (1000 + (299 * cpyS σ n 700 + (n : Int))) (cpyS σ n (n : Int))
theorem shfS_at (σ : St) : ∀ (n : Nat) (q : Int), shfS σ n q = if 1000 ≤ q ∧ q < 1000 + n then σ (q + 299) else σ q
  | 0, q => by rw [if_neg (by omega)]; rfl
  | n + 1, q => by
    unfold shfS
    by_cases e : q = 1000 + (n : Int)
    · subst e
      rw [us_eq, shfS_at σ n, if_neg (by omega), if_pos (by omega)]
      congr 1; omega
    · rw [us_ne e, shfS_at σ n]
      split
      · rw [if_pos (by omega)]
      · rw [if_neg (by omega)]
theorem cpyS_at (σ : St) (h : 0 ≤ σ 700) : ∀ (n : Nat) (q : Int), n ≤ 299 → cpyS σ n q = if 1000 + 299 * σ 700 ≤ q ∧ q < 1000 + 299 * σ 700 + n then σ (q - (1000 + 299 * σ 700)) else σ q
  | 0, q, _ => by rw [if_neg (by omega)]; rfl
  | n + 1, q, hn => by
    have e7 : cpyS σ n 700 = σ 700 := by rw [cpyS_at σ h n 700 (by omega), if_neg (by omega)]
    unfold cpyS
    rw [e7]
    by_cases e : q = 1000 + (299 * σ 700 + (n : Int))
    · subst e
      rw [us_eq, cpyS_at σ h n _ (by omega), if_neg (by omega), if_pos (by omega)]
      congr 1; omega
    · rw [us_ne e, cpyS_at σ h n q (by omega)]
      split
      · rw [if_pos (by omega)]
      · rw [if_neg (by omega)]
/-- a state is saved -/
def savF (σ : St) : St := fun q =>
  if q = 700 then (if σ 700 = 5 then 5 else σ 700 + 1)
  else if 1000 + 299 * (if σ 700 = 5 then 4 else σ 700) ≤ q ∧ q < 1000 + 299 * (if σ 700 = 5 then 4 else σ 700) + 299 then σ (q - (1000 + 299 * (if σ 700 = 5 then 4 else σ 700)))
  else if σ 700 = 5 ∧ 1000 ≤ q ∧ q < 2196 then σ (q + 299) else σ q
theorem savF_low {σ : St} {q : Int} (h0 : 0 ≤ σ 700) (h : q < 1000 ∧ q ≠ 700) : savF σ q = σ q := by
  unfold savF
  rw [if_neg (by omega), if_neg (by split <;> omega), if_neg (by omega)]
theorem savF_MI {σ : St} (hI : MI σ) : MI (savF σ) := by
  have h5 := hI.2.2.2.2.1
  obtain ⟨h1, h2, h3, h4, -, h6, h7, h8, h9⟩ := hI
  have e0 : savF σ 0 = σ 0 := savF_low (by omega) (by omega)
  have e1 : savF σ 117 = σ 117 := savF_low (by omega) (by omega)
  have e2 : savF σ 174 = σ 174 := savF_low (by omega) (by omega)
  have e3 : savF σ 702 = σ 702 := savF_low (by omega) (by omega)
  refine ⟨fun k => ?_, by rw [e0]; exact h2, by rw [e1]; exact h3, by rw [e2]; exact h4, ?_, by rw [e3]; exact h6, ?_, ?_, ?_⟩
  · unfold savF
    (repeat' split) <;> first | exact h1 _ | exact ⟨by omega, by omega⟩
  · unfold savF
    rw [if_pos rfl]
    split <;> omega
  · intro c hc
    rw [e0, savF_low (by omega) (by omega), savF_low (by omega) (by omega), savF_low (by omega) (by omega)]; exact h7 c hc
  · intro k hk
    rw [e0] at hk
    rw [savF_low (by omega) (by omega), savF_low (by omega) (by omega), savF_low (by omega) (by omega), savF_low (by omega) (by omega)]; exact h8 k hk
  · intro p hp
    rw [e1] at hp
    rw [savF_low (by omega) (by omega), savF_low (by omega) (by omega), savF_low (by omega) (by omega), savF_low (by omega) (by omega), savF_low (by omega) (by omega), savF_low (by omega) (by omega)]; exact h9 p hp
theorem sav_eq1 {σ : St} (h : σ 700 = 5) : us (cpyS (us (shfS σ 1196) 700 (shfS σ 1196 700 - 1)) 299) 700 (cpyS (us (shfS σ 1196) 700 (shfS σ 1196 700 - 1)) 299 700 + 1) = savF σ := by
  have e7 : shfS σ 1196 700 = 5 := by rw [shfS_at, if_neg (by omega)]; exact h
  have e8 : us (shfS σ 1196) 700 (shfS σ 1196 700 - 1) 700 = 4 := by rw [us_eq]; omega
  funext q
  unfold savF
  rw [cpyS_at _ (by omega) 299 700 (by omega), e8, if_neg (by omega), h]
  by_cases e : q = 700
  · subst e; rw [us_eq]; rfl
  · rw [us_ne e, if_neg e, cpyS_at _ (by omega) 299 q (by omega), e8]
    by_cases h2 : 1000 + 299 * 4 ≤ q ∧ q < 1000 + 299 * 4 + 299
    · rw [if_pos (by omega), if_pos (by simpa using h2), us_ne (by omega), shfS_at, if_neg (by omega)]
      rfl
    · rw [if_neg (by omega), if_neg (by simpa using h2), us_ne e, shfS_at]
      by_cases h3 : 1000 ≤ q ∧ q < 2196
      · rw [if_pos (by omega), if_pos (by omega)]
      · rw [if_neg (by omega), if_neg (by omega)]
theorem sav_eq2 {σ : St} (h : σ 700 ≠ 5) (h0 : 0 ≤ σ 700) : us (cpyS σ 299) 700 (cpyS σ 299 700 + 1) = savF σ := by
  funext q
  unfold savF
  rw [cpyS_at _ (by omega) 299 700 (by omega), if_neg (by omega)]
  by_cases e : q = 700
  · subst e; rw [us_eq]; simp [h]
  · rw [us_ne e, if_neg e, cpyS_at _ (by omega) 299 q (by omega)]
    simp only [h, if_false, false_and]
    by_cases h2 : 1000 + 299 * σ 700 ≤ q ∧ q < 1000 + 299 * σ 700 + 299
    · rw [if_pos (by omega), if_pos h2]
    · rw [if_neg (by omega), if_neg h2]

theorem lp_save1 {Ω : Wd} {d r : Nat} {Q : Hp → Out → Prop} {b : Nat} {h0 : Hp} {σ : St}  (hk0 : 0 ≤ σ 700 ∧ σ 700 ≤ 5) : ∀ (k n : Nat), n + k = 1196 → At Ω M_X9_save d r Q 39 [some (.ref b), none] [] (mh b h0 (shfS σ 1196)) → At Ω M_X9_save d r Q 10 [some (.ref b), some (.int (zI (((n : Nat) : Int))))] [] (mh b h0 (shfS σ n)) := by
  intro k
  induction k with
  | zero =>
    intro n hn hX
    have hnN : n = 1196 := by omega
    rw [hnN]
    refine R_iload_n dX9_save_10 rfl rfl ?_
    refine R_sipush dX9_save_11 (v := zI (1196)) rfl ?_
    refine Z_icmp_ge dX9_save_14 (by first | exact hI.1 _ | assumption | exact hI1.1 _ | exact hI2.1 _ | exact ⟨by omega, by omega⟩) (by first | exact hI.1 _ | assumption | exact hI1.1 _ | exact hI2.1 _ | exact ⟨by omega, by omega⟩) (tgt := 39) (by decide) (fun c_14 => ?_) (fun c_14 => absurd c_14 (by omega))
    exact At.dropS (L' := [some (.ref b), none]) ⟨rfl, trivial⟩ hX
  | succ k ih =>
    intro n hn hX
    refine R_iload_n dX9_save_10 rfl rfl ?_
    refine R_sipush dX9_save_11 (v := zI (1196)) rfl ?_
    refine Z_icmp_ge dX9_save_14 (by first | exact hI.1 _ | assumption | exact hI1.1 _ | exact hI2.1 _ | exact ⟨by omega, by omega⟩) (by first | exact hI.1 _ | assumption | exact hI1.1 _ | exact hI2.1 _ | exact ⟨by omega, by omega⟩) (tgt := 39) (by decide) (fun c_14 => absurd c_14 (by omega)) (fun c_14 => ?_)
    refine R_aload_n dX9_save_17 rfl rfl rfl ?_
    refine Zm_gf dX9_save_18 gf_X9_13 rfl ?_
    refine R_iload_n dX9_save_21 rfl rfl ?_
    refine R_aload_n dX9_save_22 rfl rfl rfl ?_
    refine Zm_gf dX9_save_23 gf_X9_13 rfl ?_
    refine R_sipush dX9_save_26 (v := zI (299)) rfl ?_
    refine R_iload_n dX9_save_29 rfl rfl ?_
    refine Z_iadd dX9_save_30 ?_
    refine Zm_ld2 dX9_save_31 (by omega) ?_
    refine Zm_st2 dX9_save_32 (by omega) ?_
    refine Z_iinc dX9_save_33 rfl (by decide) rfl rfl ?_
    refine R_goto dX9_save_36 (tgt := 10) (by decide) ?_
    exact At.dropS (L' := [some (.ref b), some (.int (zI ((((n + 1) : Nat) : Int))))]) ⟨rfl, rfl, trivial⟩ (ih (n + 1) (by omega) hX)

theorem lp_save2 {Ω : Wd} {d r : Nat} {Q : Hp → Out → Prop} {b : Nat} {h0 : Hp} {σ : St}  (hk0 : 0 ≤ σ 700 ∧ σ 700 ≤ 4) : ∀ (k n : Nat), n + k = 299 → At Ω M_X9_save d r Q 85 [some (.ref b), none] [] (mh b h0 (cpyS σ 299)) → At Ω M_X9_save d r Q 51 [some (.ref b), some (.int (zI (((n : Nat) : Int))))] [] (mh b h0 (cpyS σ n)) := by
  intro k
  induction k with
  | zero =>
    intro n hn hX
    have hnN : n = 299 := by omega
    rw [hnN]
    refine R_iload_n dX9_save_51 rfl rfl ?_
    refine R_sipush dX9_save_52 (v := zI (299)) rfl ?_
    refine Z_icmp_ge dX9_save_55 (by first | exact hI.1 _ | assumption | exact hI1.1 _ | exact hI2.1 _ | exact ⟨by omega, by omega⟩) (by first | exact hI.1 _ | assumption | exact hI1.1 _ | exact hI2.1 _ | exact ⟨by omega, by omega⟩) (tgt := 85) (by decide) (fun c_55 => ?_) (fun c_55 => absurd c_55 (by omega))
    exact At.dropS (L' := [some (.ref b), none]) ⟨rfl, trivial⟩ hX
  | succ k ih =>
    intro n hn hX
    refine R_iload_n dX9_save_51 rfl rfl ?_
    refine R_sipush dX9_save_52 (v := zI (299)) rfl ?_
    refine Z_icmp_ge dX9_save_55 (by first | exact hI.1 _ | assumption | exact hI1.1 _ | exact hI2.1 _ | exact ⟨by omega, by omega⟩) (by first | exact hI.1 _ | assumption | exact hI1.1 _ | exact hI2.1 _ | exact ⟨by omega, by omega⟩) (tgt := 85) (by decide) (fun c_55 => absurd c_55 (by omega)) (fun c_55 => ?_)
    have e7 : cpyS σ n 700 = σ 700 := by rw [cpyS_at σ hk0.1 n 700 (by omega), if_neg (by omega)]
    refine R_aload_n dX9_save_58 rfl rfl rfl ?_
    refine Zm_gf dX9_save_59 gf_X9_13 rfl ?_
    refine R_sipush dX9_save_62 (v := zI (299)) rfl ?_
    refine R_aload_n dX9_save_65 rfl rfl rfl ?_
    refine Zm_gf dX9_save_66 gf_X9_46 rfl ?_
    refine Z_imul dX9_save_69 ?_
    refine R_iload_n dX9_save_70 rfl rfl ?_
    refine Z_iadd dX9_save_71 ?_
    refine R_aload_n dX9_save_72 rfl rfl rfl ?_
    refine Zm_gf dX9_save_73 gf_X9_7 rfl ?_
    refine R_iload_n dX9_save_76 rfl rfl ?_
    refine Zm_ld1 dX9_save_77 (by omega) ?_
    refine Zm_st2 dX9_save_78 (by omega) ?_
    refine Z_iinc dX9_save_79 rfl (by decide) rfl rfl ?_
    refine R_goto dX9_save_82 (tgt := 51) (by decide) ?_
    exact At.dropS (L' := [some (.ref b), some (.int (zI ((((n + 1) : Nat) : Int))))]) ⟨rfl, rfl, trivial⟩ (ih (n + 1) (by omega) hX)

theorem sp_X9_save {Ω : Wd} {d r : Nat} {Q : Hp → Out → Prop} {b : Nat} {h0 : Hp} {σ : St} (hI : MI σ) (hQ : Q (mh b h0 (savF σ)) (.inl none)) : Ok Ω M_X9_save d r [.ref b] (mh b h0 (σ)) Q := by
  refine Ok.of (by decide) rfl (Nat.le_of_ble_eq_true rfl) rfl ?_
  have hk0 := hI.2.2.2.2.1
  refine R_aload_n dX9_save_0 rfl rfl rfl ?_
  refine Zm_gf dX9_save_1 gf_X9_46 rfl ?_
  refine R_iconst dX9_save_4 (v := zI (5)) rfl ?_
  refine Z_icmp_ne dX9_save_5 (by first | exact hI.1 _ | assumption | exact hI1.1 _ | exact hI2.1 _ | exact ⟨by omega, by omega⟩) (by first | exact hI.1 _ | assumption | exact hI1.1 _ | exact hI2.1 _ | exact ⟨by omega, by omega⟩) (tgt := 49) (by decide) (fun c_5 => ?_) (fun c_5 => ?_)
  · skip
    refine R_iconst dX9_save_49 (v := zI (0)) rfl ?_
    refine R_istore_n dX9_save_50 rfl (by decide) rfl rfl ?_
    refine At.dropS (L' := [some (.ref b), some (.int (zI (((0 : Nat) : Int))))]) ⟨rfl, rfl, trivial⟩ (lp_save2 (by first | (refine ⟨?_, ?_⟩ <;> omega) | (rw [if_pos rfl, shfS_at, if_neg (by omega)]; omega) | (rw [us_eq, shfS_at, if_neg (by omega)]; omega)) _ 0 (Nat.zero_add _) ?_)
    refine R_aload_n dX9_save_85 rfl rfl rfl ?_
    refine R_dup dX9_save_86 rfl ?_
    refine Zm_gf dX9_save_87 gf_X9_46 rfl ?_
    refine R_iconst dX9_save_90 (v := zI (1)) rfl ?_
    refine Z_iadd dX9_save_91 ?_
    refine Zm_pf2 dX9_save_92 pf_X9_46 ?_
    refine Z_retV dX9_save_95 (rf_v rfl) ?_
    first | exact mQv hQ (sav_eq1 c_5).symm | exact mQv hQ (sav_eq2 c_5 (by omega)).symm
  · skip
    refine R_iconst dX9_save_8 (v := zI (0)) rfl ?_
    refine R_istore_n dX9_save_9 rfl (by decide) rfl rfl ?_
    refine At.dropS (L' := [some (.ref b), some (.int (zI (((0 : Nat) : Int))))]) ⟨rfl, rfl, trivial⟩ (lp_save1 hk0 _ 0 (Nat.zero_add _) ?_)
    refine R_aload_n dX9_save_39 rfl rfl rfl ?_
    refine R_dup dX9_save_40 rfl ?_
    refine Zm_gf dX9_save_41 gf_X9_46 rfl ?_
    refine R_iconst dX9_save_44 (v := zI (1)) rfl ?_
    refine Z_isub dX9_save_45 ?_
    refine Zm_pf2 dX9_save_46 pf_X9_46 ?_
    refine R_iconst dX9_save_49 (v := zI (0)) rfl ?_
    refine R_istore_n dX9_save_50 rfl (by decide) rfl rfl ?_
    refine At.dropS (L' := [some (.ref b), some (.int (zI (((0 : Nat) : Int))))]) ⟨rfl, rfl, trivial⟩ (lp_save2 (by first | (refine ⟨?_, ?_⟩ <;> omega) | (rw [if_pos rfl, shfS_at, if_neg (by omega)]; omega) | (rw [us_eq, shfS_at, if_neg (by omega)]; omega)) _ 0 (Nat.zero_add _) ?_)
    refine R_aload_n dX9_save_85 rfl rfl rfl ?_
    refine R_dup dX9_save_86 rfl ?_
    refine Zm_gf dX9_save_87 gf_X9_46 rfl ?_
    refine R_iconst dX9_save_90 (v := zI (1)) rfl ?_
    refine Z_iadd dX9_save_91 ?_
    refine Zm_pf2 dX9_save_92 pf_X9_46 ?_
    refine Z_retV dX9_save_95 (rf_v rfl) ?_
    first | exact mQv hQ (sav_eq1 c_5).symm | exact mQv hQ (sav_eq2 c_5 (by omega)).symm


/-- no street like the new one yet, and room for one more -/
def canS (σ : St) (f t : Int) : Nat → Prop
  | 0 => σ 0 < 24
  | n + 1 => canS σ f t n ∧ (¬ σ (1 + 4 * (n : Int)) = f ∨ ¬ σ (1 + 4 * (n : Int) + 1) = t)
theorem canS_lt {σ : St} {f t : Int} : ∀ n : Nat, canS σ f t n → σ 0 < 24
  | 0, h => h
  | n + 1, h => canS_lt n h.1
def addA (τ : St) (f t z : Int) : St := us (us (us (us τ (1 + 4 * τ 0) f) (1 + 4 * τ 0 + 1) t) (1 + 4 * τ 0 + 2) z) (1 + 4 * τ 0 + 3) 1
def addF (τ : St) (f t z : Int) : St := us (addA τ f t z) 0 (addA τ f t z 0 + 1)

theorem lp_add {Ω : Wd} {d r : Nat} {Q : Hp → Out → Prop} {b : Nat} {h0 : Hp} {σ : St} {f t : Int} {w : Prop} (hI : MI σ) (hf : rg f) (ht : rg t) : ∀ (k n : Nat), n + k = (σ 0).toNat → At Ω M_X9_addStreet (d + 2) r Q 106 [some (.ref b), some (.int (zI (f))), some (.int (zI (t))), some (.int (zI (b2i w))), some (.int (zI (b2i (canS σ f t (σ 0).toNat)))), none] [] (mh b h0 (σ)) → At Ω M_X9_addStreet (d + 2) r Q 57 [some (.ref b), some (.int (zI (f))), some (.int (zI (t))), some (.int (zI (b2i w))), some (.int (zI (b2i (canS σ f t n)))), some (.int (zI (((n : Nat) : Int))))] [] (mh b h0 (σ)) := by
  intro k
  induction k with
  | zero =>
    intro n hn hX
    have hnN : n = (σ 0).toNat := by omega
    rw [hnN]
    have h0 := hI.2.1
    refine R_iload dX9_addStreet_57 rfl ?_
    refine R_aload_n dX9_addStreet_59 rfl rfl rfl ?_
    refine Zm_gf dX9_addStreet_60 gf_X9_7 rfl ?_
    refine R_iconst dX9_addStreet_63 (v := zI (0)) rfl ?_
    refine Zm_ld1 dX9_addStreet_64 (by omega) ?_
    refine Z_icmp_ge dX9_addStreet_65 (by first | exact hI.1 _ | assumption | exact hI1.1 _ | exact hI2.1 _ | exact ⟨by omega, by omega⟩) (by first | exact hI.1 _ | assumption | exact hI1.1 _ | exact hI2.1 _ | exact ⟨by omega, by omega⟩) (tgt := 106) (by decide) (fun c_65 => ?_) (fun c_65 => absurd c_65 (by omega))
    exact At.dropS (L' := [some (.ref b), some (.int (zI (f))), some (.int (zI (t))), some (.int (zI (b2i w))), some (.int (zI (b2i (canS σ f t (σ 0).toNat)))), none]) ⟨rfl, rfl, rfl, rfl, rfl, trivial⟩ hX
  | succ k ih =>
    intro n hn hX
    have h0 := hI.2.1
    refine R_iload dX9_addStreet_57 rfl ?_
    refine R_aload_n dX9_addStreet_59 rfl rfl rfl ?_
    refine Zm_gf dX9_addStreet_60 gf_X9_7 rfl ?_
    refine R_iconst dX9_addStreet_63 (v := zI (0)) rfl ?_
    refine Zm_ld1 dX9_addStreet_64 (by omega) ?_
    refine Z_icmp_ge dX9_addStreet_65 (by first | exact hI.1 _ | assumption | exact hI1.1 _ | exact hI2.1 _ | exact ⟨by omega, by omega⟩) (by first | exact hI.1 _ | assumption | exact hI1.1 _ | exact hI2.1 _ | exact ⟨by omega, by omega⟩) (tgt := 106) (by decide) (fun c_65 => absurd c_65 (by omega)) (fun c_65 => ?_)
    refine z_joinB (canS σ f t n ∧ (¬ σ (1 + 4 * ((n : Nat) : Int)) = f ∨ ¬ σ (1 + 4 * ((n : Nat) : Int) + 1) = t)) 98 ?_ (fun jt_68 jf_68 => ?_)
    · skip
      refine R_istore dX9_addStreet_98 (by decide) rfl rfl ?_
      refine Z_iinc dX9_addStreet_100 rfl (by decide) rfl rfl ?_
      refine R_goto dX9_addStreet_103 (tgt := 57) (by decide) ?_
      exact At.dropS (L' := [some (.ref b), some (.int (zI (f))), some (.int (zI (t))), some (.int (zI (b2i w))), some (.int (zI (b2i (canS σ f t (n + 1))))), some (.int (zI ((((n + 1) : Nat) : Int))))]) ⟨rfl, rfl, rfl, rfl, rfl, rfl, trivial⟩ (ih (n + 1) (by omega) hX)
    · skip
      refine R_iload dX9_addStreet_68 rfl ?_
      refine Z_if_eqB dX9_addStreet_70 (tgt := 97) (by decide) (fun c_70 => ?_) (fun c_70 => ?_)
      · skip
        refine R_iconst dX9_addStreet_97 (v := zI (0)) rfl ?_
        exact jf_68 (by first | assumption | omega | grind | (simp [*]; done) | (simp_all; done))
      · skip
        refine R_aload_n dX9_addStreet_73 rfl rfl rfl ?_
        refine R_iload dX9_addStreet_74 rfl ?_
        refine R_cV1 0 dX9_addStreet_76 rfl cv_X9_77 mh_get0 rfl rfl (Nat.le_of_ble_eq_true rfl) (Nat.zero_le _) (sp_X9_from (by first | assumption | exact hI.1 _ | exact hI1.1 _ | exact hI2.1 _ | omega | (refine ⟨?_, ?_⟩ <;> omega)) (kq.v ?_))
        refine R_iload_n dX9_addStreet_79 rfl rfl ?_
        refine Z_icmp_ne dX9_addStreet_80 (by first | exact hI.1 _ | assumption | exact hI1.1 _ | exact hI2.1 _ | exact ⟨by omega, by omega⟩) (by first | exact hI.1 _ | assumption | exact hI1.1 _ | exact hI2.1 _ | exact ⟨by omega, by omega⟩) (tgt := 93) (by decide) (fun c_80 => ?_) (fun c_80 => ?_)
        · skip
          refine R_iconst dX9_addStreet_93 (v := zI (1)) rfl ?_
          refine R_goto dX9_addStreet_94 (tgt := 98) (by decide) ?_
          exact jt_68 (by first | assumption | omega | grind | (simp [*]; done) | (simp_all; done))
        · skip
          refine R_aload_n dX9_addStreet_83 rfl rfl rfl ?_
          refine R_iload dX9_addStreet_84 rfl ?_
          refine R_cV1 0 dX9_addStreet_86 rfl cv_X9_91 mh_get0 rfl rfl (Nat.le_of_ble_eq_true rfl) (Nat.zero_le _) (sp_X9_to (by first | assumption | exact hI.1 _ | exact hI1.1 _ | exact hI2.1 _ | omega | (refine ⟨?_, ?_⟩ <;> omega)) (kq.v ?_))
          refine R_iload_n dX9_addStreet_89 rfl rfl ?_
          refine Z_icmp_eq dX9_addStreet_90 (by first | exact hI.1 _ | assumption | exact hI1.1 _ | exact hI2.1 _ | exact ⟨by omega, by omega⟩) (by first | exact hI.1 _ | assumption | exact hI1.1 _ | exact hI2.1 _ | exact ⟨by omega, by omega⟩) (tgt := 97) (by decide) (fun c_90 => ?_) (fun c_90 => ?_)
          · skip
            refine R_iconst dX9_addStreet_97 (v := zI (0)) rfl ?_
            exact jf_68 (by first | assumption | omega | grind | (simp [*]; done) | (simp_all; done))
          · skip
            refine R_iconst dX9_addStreet_93 (v := zI (1)) rfl ?_
            refine R_goto dX9_addStreet_94 (tgt := 98) (by decide) ?_
            exact jt_68 (by first | assumption | omega | grind | (simp [*]; done) | (simp_all; done))

theorem sp_X9_addStreet {Ω : Wd} {d r : Nat} {Q : Hp → Out → Prop} {b : Nat} {h0 : Hp} {σ : St} {f t : Int} {z : Prop} {τ : St} (hτ : us σ 703 0 = τ) (hI : MI τ) (hf : rg f) (ht : rg t) (h1 : ¬ ((0 ≤ f ∧ f ≤ 9) ∧ (0 ≤ t ∧ t ≤ 9)) → Q (mh b h0 (us τ 703 1)) (.inl (some (.int (zI 0))))) (h2 : ((0 ≤ f ∧ f ≤ 9) ∧ (0 ≤ t ∧ t ≤ 9)) → f = t → Q (mh b h0 (us τ 703 2)) (.inl (some (.int (zI 0))))) (h3 : ((0 ≤ f ∧ f ≤ 9) ∧ (0 ≤ t ∧ t ≤ 9)) → ¬ f = t → ¬ canS τ f t (τ 0).toNat → Q (mh b h0 (us τ 703 3)) (.inl (some (.int (zI 0))))) (h4 : ((0 ≤ f ∧ f ≤ 9) ∧ (0 ≤ t ∧ t ≤ 9)) → ¬ f = t → canS τ f t (τ 0).toNat → Q (mh b h0 (addF (savF τ) f t (b2i z))) (.inl (some (.int (zI (addF (savF τ) f t (b2i z) 0 - 1)))))) : Ok Ω M_X9_addStreet (d + 2) r [.ref b, .int (zI f), .int (zI t), .int (zI (b2i z))] (mh b h0 (σ)) Q := by
  refine Ok.of (by decide) rfl (Nat.le_of_ble_eq_true rfl) rfl ?_
  refine R_aload_n dX9_addStreet_0 rfl rfl rfl ?_
  refine R_iconst dX9_addStreet_1 (v := zI (0)) rfl ?_
  refine Zm_pf7 dX9_addStreet_2 pf_X9_38 ?_
  rw [hτ]
  refine R_iload_n dX9_addStreet_5 rfl rfl ?_
  refine R_cS1 0 dX9_addStreet_6 rfl cs_X9_119 (Nat.le_of_ble_eq_true rfl) (Nat.zero_le _) (sp_X9_isJunction (by first | assumption | exact hI.1 _ | exact hI1.1 _ | exact hI2.1 _ | omega | (refine ⟨?_, ?_⟩ <;> omega)) (kq.v ?_))
  refine Z_if_eqB dX9_addStreet_9 (tgt := 19) (by decide) (fun c_9 => ?_) (fun c_9 => ?_)
  · skip
    refine R_aload_n dX9_addStreet_19 rfl rfl rfl ?_
    refine R_iconst dX9_addStreet_20 (v := zI (1)) rfl ?_
    refine R_cV1 0 dX9_addStreet_21 rfl cv_X9_122 mh_get0 rfl rfl (Nat.le_of_ble_eq_true rfl) (Nat.zero_le _) (sp_X9_throwing  (kq.v ?_))
    refine Z_retI dX9_addStreet_24 (rf_i rfl) ?_
    exact h1 (by omega)
  · skip
    refine R_iload_n dX9_addStreet_12 rfl rfl ?_
    refine R_cS1 0 dX9_addStreet_13 rfl cs_X9_119 (Nat.le_of_ble_eq_true rfl) (Nat.zero_le _) (sp_X9_isJunction (by first | assumption | exact hI.1 _ | exact hI1.1 _ | exact hI2.1 _ | omega | (refine ⟨?_, ?_⟩ <;> omega)) (kq.v ?_))
    refine Z_if_neB dX9_addStreet_16 (tgt := 25) (by decide) (fun c_16 => ?_) (fun c_16 => ?_)
    · skip
      refine R_iload_n dX9_addStreet_25 rfl rfl ?_
      refine R_iload_n dX9_addStreet_26 rfl rfl ?_
      refine Z_icmp_ne dX9_addStreet_27 (by first | exact hI.1 _ | assumption | exact hI1.1 _ | exact hI2.1 _ | exact ⟨by omega, by omega⟩) (by first | exact hI.1 _ | assumption | exact hI1.1 _ | exact hI2.1 _ | exact ⟨by omega, by omega⟩) (tgt := 36) (by decide) (fun c_27 => ?_) (fun c_27 => ?_)
      · skip
        refine z_joinB (τ 0 < 24) 52 ?_ (fun jt_36 jf_36 => ?_)
        · skip
          refine R_istore dX9_addStreet_52 (by decide) rfl rfl ?_
          refine R_iconst dX9_addStreet_54 (v := zI (0)) rfl ?_
          refine R_istore dX9_addStreet_55 (by decide) rfl rfl ?_
          have h00 := hI.2.1
          refine At.dropS (L' := [some (.ref b), some (.int (zI (f))), some (.int (zI (t))), some (.int (zI (b2i (z)))), some (.int (zI (b2i (canS (τ) f t 0)))), some (.int (zI (((0 : Nat) : Int))))]) ⟨rfl, rfl, rfl, rfl, rfl, rfl, trivial⟩ (lp_add hI hf ht _ 0 (Nat.zero_add _) ?_)
          refine R_iload dX9_addStreet_106 rfl ?_
          refine Z_if_neB dX9_addStreet_108 (tgt := 117) (by decide) (fun c_108 => ?_) (fun c_108 => ?_)
          · skip
            have hlt := canS_lt _ c_108
            have hk := hI.2.2.2.2.1
            have e0 : savF τ 0 = τ 0 := savF_low (by omega) (by omega)
            refine R_aload_n dX9_addStreet_117 rfl rfl rfl ?_
            refine R_cV0 0 dX9_addStreet_118 rfl cv_X9_125 mh_get0 rfl rfl (Nat.le_of_ble_eq_true rfl) (Nat.zero_le _) (sp_X9_save (by first | assumption | exact hI.1 _ | exact hI1.1 _ | exact hI2.1 _ | omega | (refine ⟨?_, ?_⟩ <;> omega)) (kq.n ?_))
            refine R_iconst dX9_addStreet_121 (v := zI (1)) rfl ?_
            refine R_iconst dX9_addStreet_122 (v := zI (4)) rfl ?_
            refine R_aload_n dX9_addStreet_123 rfl rfl rfl ?_
            refine Zm_gf dX9_addStreet_124 gf_X9_7 rfl ?_
            refine R_iconst dX9_addStreet_127 (v := zI (0)) rfl ?_
            refine Zm_ld1 dX9_addStreet_128 (by omega) ?_
            refine Z_imul dX9_addStreet_129 ?_
            refine Z_iadd dX9_addStreet_130 ?_
            refine R_istore dX9_addStreet_131 (by decide) rfl rfl ?_
            refine R_aload_n dX9_addStreet_133 rfl rfl rfl ?_
            refine Zm_gf dX9_addStreet_134 gf_X9_7 rfl ?_
            refine R_iload dX9_addStreet_137 rfl ?_
            refine R_iload_n dX9_addStreet_139 rfl rfl ?_
            refine Zm_st1 dX9_addStreet_140 (by omega) ?_
            refine R_aload_n dX9_addStreet_141 rfl rfl rfl ?_
            refine Zm_gf dX9_addStreet_142 gf_X9_7 rfl ?_
            refine R_iload dX9_addStreet_145 rfl ?_
            refine R_iconst dX9_addStreet_147 (v := zI (1)) rfl ?_
            refine Z_iadd dX9_addStreet_148 ?_
            refine R_iload_n dX9_addStreet_149 rfl rfl ?_
            refine Zm_st1 dX9_addStreet_150 (by omega) ?_
            refine R_aload_n dX9_addStreet_151 rfl rfl rfl ?_
            refine Zm_gf dX9_addStreet_152 gf_X9_7 rfl ?_
            refine R_iload dX9_addStreet_155 rfl ?_
            refine R_iconst dX9_addStreet_157 (v := zI (2)) rfl ?_
            refine Z_iadd dX9_addStreet_158 ?_
            refine z_joinB (z) 168 ?_ (fun jt_159 jf_159 => ?_)
            · skip
              refine Zm_st1 dX9_addStreet_168 (by omega) ?_
              refine R_aload_n dX9_addStreet_169 rfl rfl rfl ?_
              refine Zm_gf dX9_addStreet_170 gf_X9_7 rfl ?_
              refine R_iload dX9_addStreet_173 rfl ?_
              refine R_iconst dX9_addStreet_175 (v := zI (3)) rfl ?_
              refine Z_iadd dX9_addStreet_176 ?_
              refine R_iconst dX9_addStreet_177 (v := zI (1)) rfl ?_
              refine Zm_st1 dX9_addStreet_178 (by omega) ?_
              refine R_aload_n dX9_addStreet_179 rfl rfl rfl ?_
              refine Zm_gf dX9_addStreet_180 gf_X9_7 rfl ?_
              refine R_iconst dX9_addStreet_183 (v := zI (0)) rfl ?_
              refine R_dup2 dX9_addStreet_184 rfl rfl ?_
              refine Zm_ld1 dX9_addStreet_185 (by omega) ?_
              refine R_iconst dX9_addStreet_186 (v := zI (1)) rfl ?_
              refine Z_iadd dX9_addStreet_187 ?_
              refine Zm_st1 dX9_addStreet_188 (by omega) ?_
              refine R_aload_n dX9_addStreet_189 rfl rfl rfl ?_
              refine Zm_gf dX9_addStreet_190 gf_X9_7 rfl ?_
              refine R_iconst dX9_addStreet_193 (v := zI (0)) rfl ?_
              refine Zm_ld1 dX9_addStreet_194 (by omega) ?_
              refine R_iconst dX9_addStreet_195 (v := zI (1)) rfl ?_
              refine Z_isub dX9_addStreet_196 ?_
              refine Z_retI dX9_addStreet_197 (rf_i rfl) ?_
              exact h4 (by omega) (by omega) c_108
            · skip
              refine R_iload_n dX9_addStreet_159 rfl rfl ?_
              refine Z_if_eqB dX9_addStreet_160 (tgt := 167) (by decide) (fun c_160 => ?_) (fun c_160 => ?_)
              · skip
                refine R_iconst dX9_addStreet_167 (v := zI (0)) rfl ?_
                exact jf_159 (by first | assumption | omega | grind | (simp [*]; done) | (simp_all; done))
              · skip
                refine R_iconst dX9_addStreet_163 (v := zI (1)) rfl ?_
                refine R_goto dX9_addStreet_164 (tgt := 168) (by decide) ?_
                exact jt_159 (by first | assumption | omega | grind | (simp [*]; done) | (simp_all; done))
          · skip
            refine R_aload_n dX9_addStreet_111 rfl rfl rfl ?_
            refine R_iconst dX9_addStreet_112 (v := zI (3)) rfl ?_
            refine R_cV1 0 dX9_addStreet_113 rfl cv_X9_122 mh_get0 rfl rfl (Nat.le_of_ble_eq_true rfl) (Nat.zero_le _) (sp_X9_throwing  (kq.v ?_))
            refine Z_retI dX9_addStreet_116 (rf_i rfl) ?_
            exact h3 (by omega) (by omega) c_108
        · skip
          refine R_aload_n dX9_addStreet_36 rfl rfl rfl ?_
          refine Zm_gf dX9_addStreet_37 gf_X9_7 rfl ?_
          refine R_iconst dX9_addStreet_40 (v := zI (0)) rfl ?_
          refine Zm_ld1 dX9_addStreet_41 (by omega) ?_
          refine R_bipush dX9_addStreet_42 (v := zI (24)) rfl ?_
          refine Z_icmp_ge dX9_addStreet_44 (by first | exact hI.1 _ | assumption | exact hI1.1 _ | exact hI2.1 _ | exact ⟨by omega, by omega⟩) (by first | exact hI.1 _ | assumption | exact hI1.1 _ | exact hI2.1 _ | exact ⟨by omega, by omega⟩) (tgt := 51) (by decide) (fun c_44 => ?_) (fun c_44 => ?_)
          · skip
            refine R_iconst dX9_addStreet_51 (v := zI (0)) rfl ?_
            exact jf_36 (by first | assumption | omega | grind | (simp [*]; done) | (simp_all; done))
          · skip
            refine R_iconst dX9_addStreet_47 (v := zI (1)) rfl ?_
            refine R_goto dX9_addStreet_48 (tgt := 52) (by decide) ?_
            exact jt_36 (by first | assumption | omega | grind | (simp [*]; done) | (simp_all; done))
      · skip
        refine R_aload_n dX9_addStreet_30 rfl rfl rfl ?_
        refine R_iconst dX9_addStreet_31 (v := zI (2)) rfl ?_
        refine R_cV1 0 dX9_addStreet_32 rfl cv_X9_122 mh_get0 rfl rfl (Nat.le_of_ble_eq_true rfl) (Nat.zero_le _) (sp_X9_throwing  (kq.v ?_))
        refine Z_retI dX9_addStreet_35 (rf_i rfl) ?_
        exact h2 (by omega) (by omega)
    · skip
      refine R_aload_n dX9_addStreet_19 rfl rfl rfl ?_
      refine R_iconst dX9_addStreet_20 (v := zI (1)) rfl ?_
      refine R_cV1 0 dX9_addStreet_21 rfl cv_X9_122 mh_get0 rfl rfl (Nat.le_of_ble_eq_true rfl) (Nat.zero_le _) (sp_X9_throwing  (kq.v ?_))
      refine Z_retI dX9_addStreet_24 (rf_i rfl) ?_
      exact h1 (by omega)


theorem sp_X9_toggleStreet {Ω : Wd} {d r : Nat} {Q : Hp → Out → Prop} {b : Nat} {h0 : Hp} {σ : St} {k : Int} (hI : MI σ) (hk : rg k) (h1 : ¬ (0 ≤ k ∧ k < σ 0) → Q (mh b h0 (us σ 703 1)) (.inl (some (.int (zI 0))))) (h2 : (0 ≤ k ∧ k < σ 0) → Q (mh b h0 (tglF (savF (us σ 703 0)) k)) (.inl (some (.int (zI (b2i (tglF (savF (us σ 703 0)) k (1 + 4 * k + 3) = 1))))))) : Ok Ω M_X9_toggleStreet (d + 2) r [.ref b, .int (zI k)] (mh b h0 (σ)) Q := by
  refine Ok.of (by decide) rfl (Nat.le_of_ble_eq_true rfl) rfl ?_
  have h00 := hI.2.1
  have hk0 := hI.2.2.2.2.1
  have hI1 : MI (us σ 703 0) := MI_free hI (by omega) (by decide)
  have e4 : savF (us σ 703 0) 0 = σ 0 := by rw [savF_low (by rw [us_ne (by omega)]; omega) (by omega), us_ne (by omega)]
  refine R_aload_n dX9_toggleStreet_0 rfl rfl rfl ?_
  refine R_aload_n dX9_toggleStreet_1 rfl rfl rfl ?_
  refine R_iload_n dX9_toggleStreet_2 rfl rfl ?_
  refine R_cV1 0 dX9_toggleStreet_3 rfl cv_X9_128 mh_get0 rfl rfl (Nat.le_of_ble_eq_true rfl) (Nat.zero_le _) (sp_X9_isStreet (by first | assumption | exact hI.1 _ | exact hI1.1 _ | exact hI2.1 _ | omega | (refine ⟨?_, ?_⟩ <;> omega)) (by first | assumption | exact hI.1 _ | exact hI1.1 _ | exact hI2.1 _ | omega | (refine ⟨?_, ?_⟩ <;> omega)) (kq.v ?_))
  refine Z_if_eqB dX9_toggleStreet_6 (tgt := 13) (by decide) (fun c_6 => ?_) (fun c_6 => ?_)
  · skip
    refine R_iconst dX9_toggleStreet_13 (v := zI (1)) rfl ?_
    refine Zm_pf7 dX9_toggleStreet_14 pf_X9_38 ?_
    refine R_aload_n dX9_toggleStreet_17 rfl rfl rfl ?_
    refine Zm_gf dX9_toggleStreet_18 gf_X9_38 rfl ?_
    refine Z_if_le dX9_toggleStreet_21 (by rw [us_eq]; decide) (tgt := 26) (by decide) (fun c_21 => absurd c_21 (by rw [us_eq]; decide)) (fun c_21 => ?_)
    refine R_iconst dX9_toggleStreet_24 (v := zI (0)) rfl ?_
    refine Z_retI dX9_toggleStreet_25 (rf01 rfl (by omega)) ?_
    exact h1 (by omega)
  · skip
    refine R_iconst dX9_toggleStreet_9 (v := zI (0)) rfl ?_
    refine R_goto dX9_toggleStreet_10 (tgt := 14) (by decide) ?_
    refine Zm_pf7 dX9_toggleStreet_14 pf_X9_38 ?_
    refine R_aload_n dX9_toggleStreet_17 rfl rfl rfl ?_
    refine Zm_gf dX9_toggleStreet_18 gf_X9_38 rfl ?_
    refine Z_if_le dX9_toggleStreet_21 (by rw [us_eq]; decide) (tgt := 26) (by decide) (fun c_21 => ?_) (fun c_21 => absurd c_21 (by rw [us_eq]; decide))
    refine R_aload_n dX9_toggleStreet_26 rfl rfl rfl ?_
    refine R_cV0 0 dX9_toggleStreet_27 rfl cv_X9_125 mh_get0 rfl rfl (Nat.le_of_ble_eq_true rfl) (Nat.zero_le _) (sp_X9_save (by first | assumption | exact hI.1 _ | exact hI1.1 _ | exact hI2.1 _ | omega | (refine ⟨?_, ?_⟩ <;> omega)) (kq.n ?_))
    refine R_aload_n dX9_toggleStreet_30 rfl rfl rfl ?_
    refine R_iload_n dX9_toggleStreet_31 rfl rfl ?_
    refine R_cV1 0 dX9_toggleStreet_32 rfl cv_X9_131 mh_get0 rfl rfl (Nat.le_of_ble_eq_true rfl) (Nat.zero_le _) (sp_X9_toggles (savF_MI hI1) (by rw [e4]; omega) (kq.v ?_))
    refine Z_retI dX9_toggleStreet_35 (rfb rfl) ?_
    exact h2 (by omega)

/-- nobody else is there -/
def frS (σ : St) (q j : Int) : Nat → Prop
  | 0 => True
  | n + 1 => frS σ q j n ∧ ¬ (¬ (n : Int) = q ∧ σ (97 + 5 * (n : Int) + 0) = j)

theorem lp_place {Ω : Wd} {d r : Nat} {Q : Hp → Out → Prop} {b : Nat} {h0 : Hp} {σ : St} {q j : Int} (hI : MI σ) (hq : rg q) (hj : rg j) (hR : ∀ n : Nat, n < 4 → ¬ (n : Int) = q → σ (97 + 5 * (n : Int) + 0) = j → Q (mh b h0 (us σ 703 2)) (.inl (some (.int (zI 0))))) : ∀ (k n : Nat), n + k = 4 → (frS σ q j n) → ((frS σ q j 4) → At Ω M_X9_place (d + 5) r Q 59 [some (.ref b), some (.int (zI (q))), some (.int (zI (j))), none] [] (mh b h0 (σ))) → At Ω M_X9_place (d + 5) r Q 27 [some (.ref b), some (.int (zI (q))), some (.int (zI (j))), some (.int (zI (((n : Nat) : Int))))] [] (mh b h0 (σ)) := by
  intro k
  induction k with
  | zero =>
    intro n hn hv hX
    have hnN : n = 4 := by omega
    rw [hnN] at hv ⊢
    refine R_iload_n dX9_place_27 rfl rfl ?_
    refine R_iconst dX9_place_28 (v := zI (4)) rfl ?_
    refine Z_icmp_ge dX9_place_29 (by first | exact hI.1 _ | assumption | exact hI1.1 _ | exact hI2.1 _ | exact ⟨by omega, by omega⟩) (by first | exact hI.1 _ | assumption | exact hI1.1 _ | exact hI2.1 _ | exact ⟨by omega, by omega⟩) (tgt := 59) (by decide) (fun c_29 => ?_) (fun c_29 => absurd c_29 (by omega))
    exact At.dropS (L' := [some (.ref b), some (.int (zI (q))), some (.int (zI (j))), none]) ⟨rfl, rfl, rfl, trivial⟩ (hX hv)
  | succ k ih =>
    intro n hn hv hX
    refine R_iload_n dX9_place_27 rfl rfl ?_
    refine R_iconst dX9_place_28 (v := zI (4)) rfl ?_
    refine Z_icmp_ge dX9_place_29 (by first | exact hI.1 _ | assumption | exact hI1.1 _ | exact hI2.1 _ | exact ⟨by omega, by omega⟩) (by first | exact hI.1 _ | assumption | exact hI1.1 _ | exact hI2.1 _ | exact ⟨by omega, by omega⟩) (tgt := 59) (by decide) (fun c_29 => absurd c_29 (by omega)) (fun c_29 => ?_)
    refine R_iload_n dX9_place_32 rfl rfl ?_
    refine R_iload_n dX9_place_33 rfl rfl ?_
    refine Z_icmp_eq dX9_place_34 (by first | exact hI.1 _ | assumption | exact hI1.1 _ | exact hI2.1 _ | exact ⟨by omega, by omega⟩) (by first | exact hI.1 _ | assumption | exact hI1.1 _ | exact hI2.1 _ | exact ⟨by omega, by omega⟩) (tgt := 53) (by decide) (fun c_34 => ?_) (fun c_34 => ?_)
    · skip
      refine Z_iinc dX9_place_53 rfl (by decide) rfl rfl ?_
      refine R_goto dX9_place_56 (tgt := 27) (by decide) ?_
      exact At.dropS (L' := [some (.ref b), some (.int (zI (q))), some (.int (zI (j))), some (.int (zI ((((n + 1) : Nat) : Int))))]) ⟨rfl, rfl, rfl, rfl, trivial⟩ (ih (n + 1) (by omega) ⟨hv, by omega⟩ hX)
    · skip
      refine R_aload_n dX9_place_37 rfl rfl rfl ?_
      refine R_iload_n dX9_place_38 rfl rfl ?_
      refine R_iconst dX9_place_39 (v := zI (0)) rfl ?_
      refine R_cV2 0 dX9_place_40 rfl cv_X9_53 mh_get0 rfl rfl (Nat.le_of_ble_eq_true rfl) (Nat.zero_le _) (sp_X9_of (by first | assumption | exact hI.1 _ | exact hI1.1 _ | exact hI2.1 _ | omega | (refine ⟨?_, ?_⟩ <;> omega)) (kq.v ?_))
      refine R_iload_n dX9_place_43 rfl rfl ?_
      refine Z_icmp_ne dX9_place_44 (by first | exact hI.1 _ | assumption | exact hI1.1 _ | exact hI2.1 _ | exact ⟨by omega, by omega⟩) (by first | exact hI.1 _ | assumption | exact hI1.1 _ | exact hI2.1 _ | exact ⟨by omega, by omega⟩) (tgt := 53) (by decide) (fun c_44 => ?_) (fun c_44 => ?_)
      · skip
        refine Z_iinc dX9_place_53 rfl (by decide) rfl rfl ?_
        refine R_goto dX9_place_56 (tgt := 27) (by decide) ?_
        exact At.dropS (L' := [some (.ref b), some (.int (zI (q))), some (.int (zI (j))), some (.int (zI ((((n + 1) : Nat) : Int))))]) ⟨rfl, rfl, rfl, rfl, trivial⟩ (ih (n + 1) (by omega) ⟨hv, by omega⟩ hX)
      · skip
        refine R_aload_n dX9_place_47 rfl rfl rfl ?_
        refine R_iconst dX9_place_48 (v := zI (2)) rfl ?_
        refine R_cV1 0 dX9_place_49 rfl cv_X9_122 mh_get0 rfl rfl (Nat.le_of_ble_eq_true rfl) (Nat.zero_le _) (sp_X9_throwing  (kq.v ?_))
        refine Z_retI dX9_place_52 (rf_i rfl) ?_
        exact hR n (by omega) (by omega) (by omega)

def plcF (τ : St) (q j : Int) : St := us (us τ (97 + 5 * q + 0) j) (97 + 5 * q + 2) (-1)

theorem sp_X9_place {Ω : Wd} {d r : Nat} {Q : Hp → Out → Prop} {b : Nat} {h0 : Hp} {σ : St} {q j : Int} {τ : St} (hτ : us σ 703 0 = τ) (hI : MI τ) (hq : rg q) (hj : rg j) (h1 : ¬ ((0 ≤ q ∧ q ≤ 3) ∧ (0 ≤ j ∧ j ≤ 9)) → Q (mh b h0 (us τ 703 1)) (.inl (some (.int (zI 0))))) (h2 : ((0 ≤ q ∧ q ≤ 3) ∧ (0 ≤ j ∧ j ≤ 9)) → ∀ n : Nat, n < 4 → ¬ (n : Int) = q → τ (97 + 5 * (n : Int) + 0) = j → Q (mh b h0 (us τ 703 2)) (.inl (some (.int (zI 0))))) (h3 : ((0 ≤ q ∧ q ≤ 3) ∧ (0 ≤ j ∧ j ≤ 9)) → frS τ q j 4 → Q (mh b h0 (notesF (us (plcF (savF τ) q j) 174 0))) (.inl (some (.int (zI (savF τ (97 + 5 * q + 0))))))) : Ok Ω M_X9_place (d + 5) r [.ref b, .int (zI q), .int (zI j)] (mh b h0 (σ)) Q := by
  refine Ok.of (by decide) rfl (Nat.le_of_ble_eq_true rfl) rfl ?_
  refine R_aload_n dX9_place_0 rfl rfl rfl ?_
  refine R_iconst dX9_place_1 (v := zI (0)) rfl ?_
  refine Zm_pf7 dX9_place_2 pf_X9_38 ?_
  rw [hτ]
  refine R_iload_n dX9_place_5 rfl rfl ?_
  refine R_cS1 0 dX9_place_6 rfl cs_X9_134 (Nat.le_of_ble_eq_true rfl) (Nat.zero_le _) (sp_X9_isCourier (by first | assumption | exact hI.1 _ | exact hI1.1 _ | exact hI2.1 _ | omega | (refine ⟨?_, ?_⟩ <;> omega)) (kq.v ?_))
  refine Z_if_eqB dX9_place_9 (tgt := 19) (by decide) (fun c_9 => ?_) (fun c_9 => ?_)
  · skip
    refine R_aload_n dX9_place_19 rfl rfl rfl ?_
    refine R_iconst dX9_place_20 (v := zI (1)) rfl ?_
    refine R_cV1 0 dX9_place_21 rfl cv_X9_122 mh_get0 rfl rfl (Nat.le_of_ble_eq_true rfl) (Nat.zero_le _) (sp_X9_throwing  (kq.v ?_))
    refine Z_retI dX9_place_24 (rf_i rfl) ?_
    exact h1 (by omega)
  · skip
    refine R_iload_n dX9_place_12 rfl rfl ?_
    refine R_cS1 0 dX9_place_13 rfl cs_X9_119 (Nat.le_of_ble_eq_true rfl) (Nat.zero_le _) (sp_X9_isJunction (by first | assumption | exact hI.1 _ | exact hI1.1 _ | exact hI2.1 _ | omega | (refine ⟨?_, ?_⟩ <;> omega)) (kq.v ?_))
    refine Z_if_neB dX9_place_16 (tgt := 25) (by decide) (fun c_16 => ?_) (fun c_16 => ?_)
    · skip
      refine R_iconst dX9_place_25 (v := zI (0)) rfl ?_
      refine R_istore_n dX9_place_26 rfl (by decide) rfl rfl ?_
      refine At.dropS (L' := [some (.ref b), some (.int (zI (q))), some (.int (zI (j))), some (.int (zI (((0 : Nat) : Int))))]) ⟨rfl, rfl, rfl, rfl, trivial⟩ (lp_place hI hq hj (h2 (by omega)) _ 0 (Nat.zero_add _) (by trivial) (fun hv_27 => ?_))
      have hI1 := savF_MI hI
      have h10 := hI1.2.1
      have hI2 : MI (plcF (savF τ) q j) := MI_cour (MI_cour hI1 (c := q) (w := 0) (v := j) (by omega) rfl (by omega)) (c := q) (w := 2) (v := -1) (by omega) rfl (by rw [us_ne (by omega)]; omega)
      refine R_aload_n dX9_place_59 rfl rfl rfl ?_
      refine R_cV0 0 dX9_place_60 rfl cv_X9_125 mh_get0 rfl rfl (Nat.le_of_ble_eq_true rfl) (Nat.zero_le _) (sp_X9_save (by first | assumption | exact hI.1 _ | exact hI1.1 _ | exact hI2.1 _ | omega | (refine ⟨?_, ?_⟩ <;> omega)) (kq.n ?_))
      refine R_aload_n dX9_place_63 rfl rfl rfl ?_
      refine R_iload_n dX9_place_64 rfl rfl ?_
      refine R_iconst dX9_place_65 (v := zI (0)) rfl ?_
      refine R_cV2 0 dX9_place_66 rfl cv_X9_53 mh_get0 rfl rfl (Nat.le_of_ble_eq_true rfl) (Nat.zero_le _) (sp_X9_of (by first | assumption | exact hI.1 _ | exact hI1.1 _ | exact hI2.1 _ | omega | (refine ⟨?_, ?_⟩ <;> omega)) (kq.v ?_))
      refine R_istore_n dX9_place_69 rfl (by decide) rfl rfl ?_
      refine R_aload_n dX9_place_70 rfl rfl rfl ?_
      refine R_iload_n dX9_place_71 rfl rfl ?_
      refine R_iconst dX9_place_72 (v := zI (0)) rfl ?_
      refine R_iload_n dX9_place_73 rfl rfl ?_
      refine R_cV3 0 dX9_place_74 rfl cv_X9_31 mh_get0 rfl rfl (Nat.le_of_ble_eq_true rfl) (Nat.zero_le _) (sp_X9_lay (by first | assumption | exact hI.1 _ | exact hI1.1 _ | exact hI2.1 _ | omega | (refine ⟨?_, ?_⟩ <;> omega)) (kq.n ?_))
      refine R_aload_n dX9_place_77 rfl rfl rfl ?_
      refine R_iload_n dX9_place_78 rfl rfl ?_
      refine R_iconst dX9_place_79 (v := zI (2)) rfl ?_
      refine R_iconst dX9_place_80 (v := zI (-1)) rfl ?_
      refine R_cV3 0 dX9_place_81 rfl cv_X9_31 mh_get0 rfl rfl (Nat.le_of_ble_eq_true rfl) (Nat.zero_le _) (sp_X9_lay (by first | assumption | exact hI.1 _ | exact hI1.1 _ | exact hI2.1 _ | omega | (refine ⟨?_, ?_⟩ <;> omega)) (kq.n ?_))
      show At Ω _ _ _ _ _ _ _ (mh b h0 (plcF (savF τ) q j))
      refine R_aload_n dX9_place_84 rfl rfl rfl ?_
      refine R_cV0 0 dX9_place_85 rfl cv_X9_137 mh_get0 rfl rfl (Nat.le_of_ble_eq_true rfl) (Nat.zero_le _) (sp_X9_drops (by first | assumption | exact hI.1 _ | exact hI1.1 _ | exact hI2.1 _ | omega | (refine ⟨?_, ?_⟩ <;> omega)) (kq.n ?_))
      refine R_iload_n dX9_place_88 rfl rfl ?_
      refine Z_retI dX9_place_89 (rf_i rfl) ?_
      exact h3 (by omega) hv_27
    · skip
      refine R_aload_n dX9_place_19 rfl rfl rfl ?_
      refine R_iconst dX9_place_20 (v := zI (1)) rfl ?_
      refine R_cV1 0 dX9_place_21 rfl cv_X9_122 mh_get0 rfl rfl (Nat.le_of_ble_eq_true rfl) (Nat.zero_le _) (sp_X9_throwing  (kq.v ?_))
      refine Z_retI dX9_place_24 (rf_i rfl) ?_
      exact h1 (by omega)

def tvnF (τ : St) (q : Int) : St := us (us τ (97 + 5 * q + 1) (1 - τ (97 + 5 * q + 1))) (97 + 5 * q + 2) (if us τ (97 + 5 * q + 1) (1 - τ (97 + 5 * q + 1)) (97 + 5 * q + 1) = 1 ∧ ¬ us τ (97 + 5 * q + 1) (1 - τ (97 + 5 * q + 1)) (97 + 5 * q + 2) = -1 ∧ us τ (97 + 5 * q + 1) (1 - τ (97 + 5 * q + 1)) (1 + 4 * us τ (97 + 5 * q + 1) (1 - τ (97 + 5 * q + 1)) (97 + 5 * q + 2) + 2) = 1 then -1 else us τ (97 + 5 * q + 1) (1 - τ (97 + 5 * q + 1)) (97 + 5 * q + 2))

theorem sp_X9_toggleVan {Ω : Wd} {d r : Nat} {Q : Hp → Out → Prop} {b : Nat} {h0 : Hp} {σ : St} {q : Int} (hI : MI σ) (hq : rg q) (hcap : 1 ≤ σ 166 ∧ σ 166 ≤ 9) (h1 : ¬ (0 ≤ q ∧ q ≤ 3) → Q (mh b h0 (us σ 703 1)) (.inl (some (.int (zI 0))))) (h2 : (0 ≤ q ∧ q ≤ 3) → (if 1 - σ (97 + 5 * q + 1) = 1 then 2 * σ 166 else σ 166) < loadF σ q → Q (mh b h0 (us σ 703 2)) (.inl (some (.int (zI 0))))) (h3 : (0 ≤ q ∧ q ≤ 3) → loadF σ q ≤ (if 1 - σ (97 + 5 * q + 1) = 1 then 2 * σ 166 else σ 166) → Q (mh b h0 (tvnF (savF (us σ 703 0)) q)) (.inl (some (.int (zI (b2i (us (savF (us σ 703 0)) (97 + 5 * q + 1) (1 - savF (us σ 703 0) (97 + 5 * q + 1)) (97 + 5 * q + 1) = 1))))))) : Ok Ω M_X9_toggleVan (d + 2) r [.ref b, .int (zI q)] (mh b h0 (σ)) Q := by
  refine Ok.of (by decide) rfl (Nat.le_of_ble_eq_true rfl) rfl ?_
  have hI1 : MI (savF (us σ 703 0)) := savF_MI (MI_free hI (by omega) (by decide))
  have hl := loadF_bd hI q
  have h70 := hI.2.2.2.2.1
  have h00 := hI1.2.1
  refine R_aload_n dX9_toggleVan_0 rfl rfl rfl ?_
  refine R_iload_n dX9_toggleVan_1 rfl rfl ?_
  refine R_cS1 0 dX9_toggleVan_2 rfl cs_X9_134 (Nat.le_of_ble_eq_true rfl) (Nat.zero_le _) (sp_X9_isCourier (by first | assumption | exact hI.1 _ | exact hI1.1 _ | exact hI2.1 _ | omega | (refine ⟨?_, ?_⟩ <;> omega)) (kq.v ?_))
  refine Z_if_neB dX9_toggleVan_5 (tgt := 12) (by decide) (fun c_5 => ?_) (fun c_5 => ?_)
  · skip
    have hv := (hI.2.2.2.2.2.2.1 q (by omega)).2.1
    have hv1 := hI1.2.2.2.2.2.2.1 q (by omega)
    refine R_aload_n dX9_toggleVan_12 rfl rfl rfl ?_
    refine R_iload_n dX9_toggleVan_13 rfl rfl ?_
    refine R_cV1 0 dX9_toggleVan_14 rfl cv_X9_94 mh_get0 rfl rfl (Nat.le_of_ble_eq_true rfl) (Nat.zero_le _) (sp_X9_load (by first | assumption | exact hI.1 _ | exact hI1.1 _ | exact hI2.1 _ | omega | (refine ⟨?_, ?_⟩ <;> omega)) (by first | assumption | exact hI.1 _ | exact hI1.1 _ | exact hI2.1 _ | omega | (refine ⟨?_, ?_⟩ <;> omega)) (kq.v ?_))
    refine R_aload_n dX9_toggleVan_17 rfl rfl rfl ?_
    refine R_iload_n dX9_toggleVan_18 rfl rfl ?_
    refine R_iconst dX9_toggleVan_19 (v := zI (1)) rfl ?_
    refine R_aload_n dX9_toggleVan_20 rfl rfl rfl ?_
    refine R_iload_n dX9_toggleVan_21 rfl rfl ?_
    refine R_iconst dX9_toggleVan_22 (v := zI (1)) rfl ?_
    refine R_cV2 0 dX9_toggleVan_23 rfl cv_X9_53 mh_get0 rfl rfl (Nat.le_of_ble_eq_true rfl) (Nat.zero_le _) (sp_X9_of (by first | assumption | exact hI.1 _ | exact hI1.1 _ | exact hI2.1 _ | omega | (refine ⟨?_, ?_⟩ <;> omega)) (kq.v ?_))
    refine Z_isub dX9_toggleVan_26 ?_
    refine R_aload_n dX9_toggleVan_27 rfl rfl rfl ?_
    refine Zm_gf dX9_toggleVan_28 gf_X9_7 rfl ?_
    refine R_sipush dX9_toggleVan_31 (v := zI (166)) rfl ?_
    refine Zm_ld1 dX9_toggleVan_34 (by omega) ?_
    refine R_cV3 0 dX9_toggleVan_35 rfl cv_X9_56 mh_get0 rfl rfl (Nat.le_of_ble_eq_true rfl) (Nat.zero_le _) (sp_X9_room (by first | assumption | exact hI.1 _ | exact hI1.1 _ | exact hI2.1 _ | omega | (refine ⟨?_, ?_⟩ <;> omega)) (kq.v ?_))
    refine Z_icmp_le dX9_toggleVan_38 (by first | exact ⟨by omega, by omega⟩ | (split <;> exact ⟨by omega, by omega⟩)) (by first | exact ⟨by omega, by omega⟩ | (split <;> exact ⟨by omega, by omega⟩)) (tgt := 45) (by decide) (fun c_38 => ?_) (fun c_38 => ?_)
    · skip
      refine R_iconst dX9_toggleVan_45 (v := zI (0)) rfl ?_
      refine Zm_pf7 dX9_toggleVan_46 pf_X9_38 ?_
      refine R_aload_n dX9_toggleVan_49 rfl rfl rfl ?_
      refine Zm_gf dX9_toggleVan_50 gf_X9_38 rfl ?_
      refine Z_if_le dX9_toggleVan_53 (by rw [us_eq]; decide) (tgt := 58) (by decide) (fun c_53 => ?_) (fun c_53 => absurd c_53 (by rw [us_eq]; decide))
      refine R_aload_n dX9_toggleVan_58 rfl rfl rfl ?_
      refine R_cV0 0 dX9_toggleVan_59 rfl cv_X9_125 mh_get0 rfl rfl (Nat.le_of_ble_eq_true rfl) (Nat.zero_le _) (sp_X9_save (MI_free hI (by omega) (by decide)) (kq.n ?_))
      refine R_aload_n dX9_toggleVan_62 rfl rfl rfl ?_
      refine R_iload_n dX9_toggleVan_63 rfl rfl ?_
      refine R_iconst dX9_toggleVan_64 (v := zI (1)) rfl ?_
      refine R_iconst dX9_toggleVan_65 (v := zI (1)) rfl ?_
      refine R_aload_n dX9_toggleVan_66 rfl rfl rfl ?_
      refine R_iload_n dX9_toggleVan_67 rfl rfl ?_
      refine R_iconst dX9_toggleVan_68 (v := zI (1)) rfl ?_
      refine R_cV2 0 dX9_toggleVan_69 rfl cv_X9_53 mh_get0 rfl rfl (Nat.le_of_ble_eq_true rfl) (Nat.zero_le _) (sp_X9_of (by first | assumption | exact hI.1 _ | exact hI1.1 _ | exact hI2.1 _ | omega | (refine ⟨?_, ?_⟩ <;> omega)) (kq.v ?_))
      refine Z_isub dX9_toggleVan_72 ?_
      refine R_cV3 0 dX9_toggleVan_73 rfl cv_X9_31 mh_get0 rfl rfl (Nat.le_of_ble_eq_true rfl) (Nat.zero_le _) (sp_X9_lay (by first | assumption | exact hI.1 _ | exact hI1.1 _ | exact hI2.1 _ | omega | (refine ⟨?_, ?_⟩ <;> omega)) (kq.n ?_))
      have hI2 : MI (us (savF (us σ 703 0)) (97 + 5 * q + 1) (1 - savF (us σ 703 0) (97 + 5 * q + 1))) := MI_cour hI1 (c := q) (w := 1) (by omega) rfl (by omega)
      have ev : us (savF (us σ 703 0)) (97 + 5 * q + 1) (1 - savF (us σ 703 0) (97 + 5 * q + 1)) (97 + 5 * q + 2) = savF (us σ 703 0) (97 + 5 * q + 2) := us_ne (by omega)
      refine z_joinB (us (savF (us σ 703 0)) (97 + 5 * q + 1) (1 - savF (us σ 703 0) (97 + 5 * q + 1)) (97 + 5 * q + 1) = 1) 91 ?_ (fun jt_76 jf_76 => ?_)
      · skip
        refine R_istore_n dX9_toggleVan_91 rfl (by decide) rfl rfl ?_
        refine R_aload_n dX9_toggleVan_92 rfl rfl rfl ?_
        refine R_iload_n dX9_toggleVan_93 rfl rfl ?_
        refine R_iconst dX9_toggleVan_94 (v := zI (2)) rfl ?_
        refine R_cV2 0 dX9_toggleVan_95 rfl cv_X9_53 mh_get0 rfl rfl (Nat.le_of_ble_eq_true rfl) (Nat.zero_le _) (sp_X9_of (by first | assumption | exact hI.1 _ | exact hI1.1 _ | exact hI2.1 _ | omega | (refine ⟨?_, ?_⟩ <;> omega)) (kq.v ?_))
        refine R_istore_n dX9_toggleVan_98 rfl (by decide) rfl rfl ?_
        refine R_aload_n dX9_toggleVan_99 rfl rfl rfl ?_
        refine R_iload_n dX9_toggleVan_100 rfl rfl ?_
        refine R_iconst dX9_toggleVan_101 (v := zI (2)) rfl ?_
        refine z_joinI (if us (savF (us σ 703 0)) (97 + 5 * q + 1) (1 - savF (us σ 703 0) (97 + 5 * q + 1)) (97 + 5 * q + 1) = 1 ∧ ¬ us (savF (us σ 703 0)) (97 + 5 * q + 1) (1 - savF (us σ 703 0) (97 + 5 * q + 1)) (97 + 5 * q + 2) = -1 ∧ us (savF (us σ 703 0)) (97 + 5 * q + 1) (1 - savF (us σ 703 0) (97 + 5 * q + 1)) (1 + 4 * us (savF (us σ 703 0)) (97 + 5 * q + 1) (1 - savF (us σ 703 0) (97 + 5 * q + 1)) (97 + 5 * q + 2) + 2) = 1 then -1 else us (savF (us σ 703 0)) (97 + 5 * q + 1) (1 - savF (us σ 703 0) (97 + 5 * q + 1)) (97 + 5 * q + 2)) 124 ?_ (fun jj_102 => ?_)
        · skip
          refine R_cV3 0 dX9_toggleVan_124 rfl cv_X9_31 mh_get0 rfl rfl (Nat.le_of_ble_eq_true rfl) (Nat.zero_le _) (sp_X9_lay (by first | assumption | exact hI.1 _ | exact hI1.1 _ | exact hI2.1 _ | omega | (refine ⟨?_, ?_⟩ <;> omega)) (kq.n ?_))
          refine R_iload_n dX9_toggleVan_127 rfl rfl ?_
          refine Z_retI dX9_toggleVan_128 (rfb rfl) ?_
          exact h3 (by omega) (by omega)
        · skip
          refine R_iload_n dX9_toggleVan_102 rfl rfl ?_
          refine Z_if_eqB dX9_toggleVan_103 (tgt := 123) (by decide) (fun c_103 => ?_) (fun c_103 => ?_)
          · skip
            refine R_iload_n dX9_toggleVan_123 rfl rfl ?_
            exact jj_102 _ (by first | (rw [if_pos (by omega)]; done) | (rw [if_neg (by omega)]; done))
          · skip
            refine R_iload_n dX9_toggleVan_106 rfl rfl ?_
            refine R_iconst dX9_toggleVan_107 (v := zI (-1)) rfl ?_
            refine Z_icmp_eq dX9_toggleVan_108 (by first | exact hI.1 _ | assumption | exact hI1.1 _ | exact hI2.1 _ | exact ⟨by omega, by omega⟩) (by first | exact hI.1 _ | assumption | exact hI1.1 _ | exact hI2.1 _ | exact ⟨by omega, by omega⟩) (tgt := 123) (by decide) (fun c_108 => ?_) (fun c_108 => ?_)
            · skip
              refine R_iload_n dX9_toggleVan_123 rfl rfl ?_
              exact jj_102 _ (by first | (rw [if_pos (by omega)]; done) | (rw [if_neg (by omega)]; done))
            · skip
              refine R_aload_n dX9_toggleVan_111 rfl rfl rfl ?_
              refine R_iload_n dX9_toggleVan_112 rfl rfl ?_
              refine R_cV1 0 dX9_toggleVan_113 rfl cv_X9_84 mh_get0 rfl rfl (Nat.le_of_ble_eq_true rfl) (Nat.zero_le _) (sp_X9_isNarrow (by omega) (hI2.1 _) (kq.v ?_))
              refine Z_if_eqB dX9_toggleVan_116 (tgt := 123) (by decide) (fun c_116 => ?_) (fun c_116 => ?_)
              · skip
                refine R_iload_n dX9_toggleVan_123 rfl rfl ?_
                exact jj_102 _ (by first | (rw [if_pos (by omega)]; done) | (rw [if_neg (by omega)]; done))
              · skip
                refine R_iconst dX9_toggleVan_119 (v := zI (-1)) rfl ?_
                refine R_goto dX9_toggleVan_120 (tgt := 124) (by decide) ?_
                exact jj_102 _ (by first | (rw [if_pos (by omega)]; done) | (rw [if_neg (by omega)]; done))
      · skip
        refine R_aload_n dX9_toggleVan_76 rfl rfl rfl ?_
        refine R_iload_n dX9_toggleVan_77 rfl rfl ?_
        refine R_iconst dX9_toggleVan_78 (v := zI (1)) rfl ?_
        refine R_cV2 0 dX9_toggleVan_79 rfl cv_X9_53 mh_get0 rfl rfl (Nat.le_of_ble_eq_true rfl) (Nat.zero_le _) (sp_X9_of (by first | assumption | exact hI.1 _ | exact hI1.1 _ | exact hI2.1 _ | omega | (refine ⟨?_, ?_⟩ <;> omega)) (kq.v ?_))
        refine R_iconst dX9_toggleVan_82 (v := zI (1)) rfl ?_
        refine Z_icmp_ne dX9_toggleVan_83 (by first | exact hI.1 _ | assumption | exact hI1.1 _ | exact hI2.1 _ | exact ⟨by omega, by omega⟩) (by first | exact hI.1 _ | assumption | exact hI1.1 _ | exact hI2.1 _ | exact ⟨by omega, by omega⟩) (tgt := 90) (by decide) (fun c_83 => ?_) (fun c_83 => ?_)
        · skip
          refine R_iconst dX9_toggleVan_90 (v := zI (0)) rfl ?_
          exact jf_76 (by first | assumption | omega | grind | (simp [*]; done) | (simp_all; done))
        · skip
          refine R_iconst dX9_toggleVan_86 (v := zI (1)) rfl ?_
          refine R_goto dX9_toggleVan_87 (tgt := 91) (by decide) ?_
          exact jt_76 (by first | assumption | omega | grind | (simp [*]; done) | (simp_all; done))
    · skip
      refine R_iconst dX9_toggleVan_41 (v := zI (2)) rfl ?_
      refine R_goto dX9_toggleVan_42 (tgt := 46) (by decide) ?_
      refine Zm_pf7 dX9_toggleVan_46 pf_X9_38 ?_
      refine R_aload_n dX9_toggleVan_49 rfl rfl rfl ?_
      refine Zm_gf dX9_toggleVan_50 gf_X9_38 rfl ?_
      refine Z_if_le dX9_toggleVan_53 (by rw [us_eq]; decide) (tgt := 58) (by decide) (fun c_53 => absurd c_53 (by rw [us_eq]; decide)) (fun c_53 => ?_)
      refine R_iconst dX9_toggleVan_56 (v := zI (0)) rfl ?_
      refine Z_retI dX9_toggleVan_57 (rf01 rfl (by omega)) ?_
      first | exact h1 (by omega) | exact h2 (by omega) (by omega)
  · skip
    refine R_iconst dX9_toggleVan_8 (v := zI (1)) rfl ?_
    refine R_goto dX9_toggleVan_9 (tgt := 46) (by decide) ?_
    refine Zm_pf7 dX9_toggleVan_46 pf_X9_38 ?_
    refine R_aload_n dX9_toggleVan_49 rfl rfl rfl ?_
    refine Zm_gf dX9_toggleVan_50 gf_X9_38 rfl ?_
    refine Z_if_le dX9_toggleVan_53 (by rw [us_eq]; decide) (tgt := 58) (by decide) (fun c_53 => absurd c_53 (by rw [us_eq]; decide)) (fun c_53 => ?_)
    refine R_iconst dX9_toggleVan_56 (v := zI (0)) rfl ?_
    refine Z_retI dX9_toggleVan_57 (rf01 rfl (by omega)) ?_
    first | exact h1 (by omega) | exact h2 (by omega) (by omega)


