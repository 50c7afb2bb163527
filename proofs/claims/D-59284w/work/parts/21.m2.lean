/-! the model: loads, positions -/
set_option maxRecDepth 100000
/-- what always holds of the row of numbers (for the walks) -/
def MI (σ : St) : Prop := (∀ k, rg (σ k)) ∧ (0 ≤ σ 0 ∧ σ 0 ≤ 24) ∧ (0 ≤ σ 117 ∧ σ 117 ≤ 8) ∧ (0 ≤ σ 174 ∧ σ 174 ≤ 61) ∧ (0 ≤ σ 700 ∧ σ 700 ≤ 5) ∧ (0 ≤ σ 702 ∧ σ 702 ≤ 60) ∧
  (∀ c : Int, 0 ≤ c ∧ c < 4 → (0 ≤ σ (97 + 5 * c + 0) ∧ σ (97 + 5 * c + 0) < 10) ∧ (0 ≤ σ (97 + 5 * c + 1) ∧ σ (97 + 5 * c + 1) ≤ 1) ∧ (-1 ≤ σ (97 + 5 * c + 2) ∧ σ (97 + 5 * c + 2) < σ 0)) ∧
  (∀ k : Int, 0 ≤ k ∧ k < σ 0 → (0 ≤ σ (1 + 4 * k) ∧ σ (1 + 4 * k) < 10) ∧ (0 ≤ σ (1 + 4 * k + 1) ∧ σ (1 + 4 * k + 1) < 10) ∧ (0 ≤ σ (1 + 4 * k + 2) ∧ σ (1 + 4 * k + 2) ≤ 1) ∧ (0 ≤ σ (1 + 4 * k + 3) ∧ σ (1 + 4 * k + 3) ≤ 1)) ∧
  (∀ p : Int, 0 ≤ p ∧ p < σ 117 → (0 ≤ σ (118 + 6 * p + 0) ∧ σ (118 + 6 * p + 0) < 10) ∧ (0 ≤ σ (118 + 6 * p + 1) ∧ σ (118 + 6 * p + 1) < 10) ∧ (1 ≤ σ (118 + 6 * p + 2) ∧ σ (118 + 6 * p + 2) ≤ 5) ∧ (1 ≤ σ (118 + 6 * p + 3) ∧ σ (118 + 6 * p + 3) ≤ 9) ∧ (0 ≤ σ (118 + 6 * p + 4) ∧ σ (118 + 6 * p + 4) ≤ 2) ∧ (-1 ≤ σ (118 + 6 * p + 5) ∧ σ (118 + 6 * p + 5) < 4))
/-- what a courier carries of the first parcels -/
def loadS (σ : St) (c : Int) : Nat → Int
  | 0 => 0
  | n + 1 => loadS σ c n + if σ (118 + 6 * (n : Int) + 4) = 1 ∧ σ (118 + 6 * (n : Int) + 5) = c then σ (118 + 6 * (n : Int) + 2) else 0
def loadF (σ : St) (c : Int) : Int := loadS σ c (σ 117).toNat

theorem lp_load {Ω : Wd} {d r : Nat} {Q : Hp → Out → Prop} {b : Nat} {h0 : Hp} {σ : St} {c : Int} (hI : MI σ) (hc : rg c) : ∀ (k n : Nat), n + k = (σ 117).toNat → At Ω M_X9_load (d + 1) r Q 54 [some (.ref b), some (.int (zI (c))), some (.int (zI (loadS σ c (σ 117).toNat))), none] [] (mh b h0 (σ)) → At Ω M_X9_load (d + 1) r Q 4 [some (.ref b), some (.int (zI (c))), some (.int (zI (loadS σ c n))), some (.int (zI (((n : Nat) : Int))))] [] (mh b h0 (σ)) := by
  intro k
  induction k with
  | zero =>
    intro n hn hX
    have hnN : n = (σ 117).toNat := by omega
    rw [hnN]
    have h117 := hI.2.2.1
    refine R_iload_n dX9_load_4 rfl rfl ?_
    refine R_aload_n dX9_load_5 rfl rfl rfl ?_
    refine Zm_gf dX9_load_6 gf_X9_7 rfl ?_
    refine R_bipush dX9_load_9 (v := zI (117)) rfl ?_
    refine Zm_ld1 dX9_load_11 (by omega) ?_
    refine Z_icmp_ge dX9_load_12 (by first | exact hI.1 _ | assumption | exact hI1.1 _ | exact hI2.1 _ | exact ⟨by omega, by omega⟩) (by first | exact hI.1 _ | assumption | exact hI1.1 _ | exact hI2.1 _ | exact ⟨by omega, by omega⟩) (tgt := 54) (by decide) (fun c_12 => ?_) (fun c_12 => absurd c_12 (by omega))
    exact At.dropS (L' := [some (.ref b), some (.int (zI (c))), some (.int (zI (loadS σ c (σ 117).toNat))), none]) ⟨rfl, rfl, rfl, trivial⟩ hX
  | succ k ih =>
    intro n hn hX
    have h117 := hI.2.2.1
    refine R_iload_n dX9_load_4 rfl rfl ?_
    refine R_aload_n dX9_load_5 rfl rfl rfl ?_
    refine Zm_gf dX9_load_6 gf_X9_7 rfl ?_
    refine R_bipush dX9_load_9 (v := zI (117)) rfl ?_
    refine Zm_ld1 dX9_load_11 (by omega) ?_
    refine Z_icmp_ge dX9_load_12 (by first | exact hI.1 _ | assumption | exact hI1.1 _ | exact hI2.1 _ | exact ⟨by omega, by omega⟩) (by first | exact hI.1 _ | assumption | exact hI1.1 _ | exact hI2.1 _ | exact ⟨by omega, by omega⟩) (tgt := 54) (by decide) (fun c_12 => absurd c_12 (by omega)) (fun c_12 => ?_)
    refine R_iload_n dX9_load_15 rfl rfl ?_
    refine z_joinI (if σ (118 + 6 * ((n : Nat) : Int) + 4) = 1 ∧ σ (118 + 6 * ((n : Nat) : Int) + 5) = c then σ (118 + 6 * ((n : Nat) : Int) + 2) else 0) 46 ?_ (fun jj_16 => ?_)
    · skip
      refine Z_iadd dX9_load_46 ?_
      refine R_istore_n dX9_load_47 rfl (by decide) rfl rfl ?_
      refine Z_iinc dX9_load_48 rfl (by decide) rfl rfl ?_
      refine R_goto dX9_load_51 (tgt := 4) (by decide) ?_
      exact At.dropS (L' := [some (.ref b), some (.int (zI (c))), some (.int (zI (loadS σ c (n + 1)))), some (.int (zI ((((n + 1) : Nat) : Int))))]) ⟨rfl, rfl, rfl, rfl, trivial⟩ (ih (n + 1) (by omega) hX)
    · skip
      refine R_aload_n dX9_load_16 rfl rfl rfl ?_
      refine R_iload_n dX9_load_17 rfl rfl ?_
      refine R_iconst dX9_load_18 (v := zI (4)) rfl ?_
      refine R_cV2 0 dX9_load_19 rfl cv_X9_49 mh_get0 rfl rfl (Nat.le_of_ble_eq_true rfl) (Nat.zero_le _) (sp_X9_has (by first | assumption | exact hI.1 _ | exact hI1.1 _ | exact hI2.1 _ | omega | (refine ⟨?_, ?_⟩ <;> omega)) (kq.v ?_))
      refine R_iconst dX9_load_22 (v := zI (1)) rfl ?_
      refine Z_icmp_ne dX9_load_23 (by first | exact hI.1 _ | assumption | exact hI1.1 _ | exact hI2.1 _ | exact ⟨by omega, by omega⟩) (by first | exact hI.1 _ | assumption | exact hI1.1 _ | exact hI2.1 _ | exact ⟨by omega, by omega⟩) (tgt := 45) (by decide) (fun c_23 => ?_) (fun c_23 => ?_)
      · skip
        refine R_iconst dX9_load_45 (v := zI (0)) rfl ?_
        exact jj_16 _ (by first | rfl | (simp [*]; done) | omega | grind)
      · skip
        refine R_aload_n dX9_load_26 rfl rfl rfl ?_
        refine R_iload_n dX9_load_27 rfl rfl ?_
        refine R_iconst dX9_load_28 (v := zI (5)) rfl ?_
        refine R_cV2 0 dX9_load_29 rfl cv_X9_49 mh_get0 rfl rfl (Nat.le_of_ble_eq_true rfl) (Nat.zero_le _) (sp_X9_has (by first | assumption | exact hI.1 _ | exact hI1.1 _ | exact hI2.1 _ | omega | (refine ⟨?_, ?_⟩ <;> omega)) (kq.v ?_))
        refine R_iload_n dX9_load_32 rfl rfl ?_
        refine Z_icmp_ne dX9_load_33 (by first | exact hI.1 _ | assumption | exact hI1.1 _ | exact hI2.1 _ | exact ⟨by omega, by omega⟩) (by first | exact hI.1 _ | assumption | exact hI1.1 _ | exact hI2.1 _ | exact ⟨by omega, by omega⟩) (tgt := 45) (by decide) (fun c_33 => ?_) (fun c_33 => ?_)
        · skip
          refine R_iconst dX9_load_45 (v := zI (0)) rfl ?_
          exact jj_16 _ (by first | rfl | (simp [*]; done) | omega | grind)
        · skip
          refine R_aload_n dX9_load_36 rfl rfl rfl ?_
          refine R_iload_n dX9_load_37 rfl rfl ?_
          refine R_iconst dX9_load_38 (v := zI (2)) rfl ?_
          refine R_cV2 0 dX9_load_39 rfl cv_X9_49 mh_get0 rfl rfl (Nat.le_of_ble_eq_true rfl) (Nat.zero_le _) (sp_X9_has (by first | assumption | exact hI.1 _ | exact hI1.1 _ | exact hI2.1 _ | omega | (refine ⟨?_, ?_⟩ <;> omega)) (kq.v ?_))
          refine R_goto dX9_load_42 (tgt := 46) (by decide) ?_
          exact jj_16 _ (by first | rfl | (simp [*]; done) | omega | grind)

theorem sp_X9_load {Ω : Wd} {d r : Nat} {Q : Hp → Out → Prop} {b : Nat} {h0 : Hp} {σ : St} {c : Int} (hI : MI σ) (hc : rg c) (hQ : Q (mh b h0 (σ)) (.inl (some (.int (zI (loadF σ c)))))) : Ok Ω M_X9_load (d + 1) r [.ref b, .int (zI c)] (mh b h0 (σ)) Q := by
  refine Ok.of (by decide) rfl (Nat.le_of_ble_eq_true rfl) rfl ?_
  refine R_iconst dX9_load_0 (v := zI (0)) rfl ?_
  refine R_istore_n dX9_load_1 rfl (by decide) rfl rfl ?_
  refine R_iconst dX9_load_2 (v := zI (0)) rfl ?_
  refine R_istore_n dX9_load_3 rfl (by decide) rfl rfl ?_
  refine At.dropS (L' := [some (.ref b), some (.int (zI (c))), some (.int (zI (loadS σ c 0))), some (.int (zI (((0 : Nat) : Int))))]) ⟨rfl, rfl, rfl, rfl, trivial⟩ (lp_load hI hc _ 0 (Nat.zero_add _) ?_)
  refine R_iload_n dX9_load_54 rfl rfl ?_
  refine Z_retI dX9_load_55 (rf_i rfl) ?_
  first | exact hQ | exact mQi hQ rfl (by first | rfl | omega | exact b2i_1 (by omega) | exact b2i_0 (by omega) | (simp [*]; done))

/-- where a parcel is, as a number -/
def codedF (σ : St) (p : Int) : Int := if σ 117 ≤ p then 0 else if σ (118 + 6 * p + 4) = 0 then σ (118 + 6 * p + 0) else if σ (118 + 6 * p + 4) = 1 then 10 + σ (118 + 6 * p + 5) else 14 + σ (118 + 6 * p + 5)

theorem sp_X9_coded {Ω : Wd} {d r : Nat} {Q : Hp → Out → Prop} {b : Nat} {h0 : Hp} {σ : St} {p : Int} (hI : MI σ) (hp : 0 ≤ p ∧ p < 8) (hQ : Q (mh b h0 (σ)) (.inl (some (.int (zI (codedF σ p)))))) : Ok Ω M_X9_coded (d + 1) r [.ref b, .int (zI p)] (mh b h0 (σ)) Q := by
  refine Ok.of (by decide) rfl (Nat.le_of_ble_eq_true rfl) rfl ?_
  refine R_iload_n dX9_coded_0 rfl rfl ?_
  refine R_aload_n dX9_coded_1 rfl rfl rfl ?_
  refine Zm_gf dX9_coded_2 gf_X9_7 rfl ?_
  refine R_bipush dX9_coded_5 (v := zI (117)) rfl ?_
  refine Zm_ld1 dX9_coded_7 (by omega) ?_
  refine Z_icmp_lt dX9_coded_8 (by first | exact hI.1 _ | assumption | exact hI1.1 _ | exact hI2.1 _ | exact ⟨by omega, by omega⟩) (by first | exact hI.1 _ | assumption | exact hI1.1 _ | exact hI2.1 _ | exact ⟨by omega, by omega⟩) (tgt := 13) (by decide) (fun c_8 => ?_) (fun c_8 => ?_)
  · skip
    refine R_aload_n dX9_coded_13 rfl rfl rfl ?_
    refine R_iload_n dX9_coded_14 rfl rfl ?_
    refine R_iconst dX9_coded_15 (v := zI (4)) rfl ?_
    refine R_cV2 0 dX9_coded_16 rfl cv_X9_49 mh_get0 rfl rfl (Nat.le_of_ble_eq_true rfl) (Nat.zero_le _) (sp_X9_has (by first | assumption | exact hI.1 _ | exact hI1.1 _ | exact hI2.1 _ | omega | (refine ⟨?_, ?_⟩ <;> omega)) (kq.v ?_))
    refine Z_if_ne dX9_coded_19 (by first | exact hI.1 _ | assumption | exact hI1.1 _ | exact hI2.1 _ | exact ⟨by omega, by omega⟩) (tgt := 31) (by decide) (fun c_19 => ?_) (fun c_19 => ?_)
    · skip
      refine R_aload_n dX9_coded_31 rfl rfl rfl ?_
      refine R_iload_n dX9_coded_32 rfl rfl ?_
      refine R_iconst dX9_coded_33 (v := zI (4)) rfl ?_
      refine R_cV2 0 dX9_coded_34 rfl cv_X9_49 mh_get0 rfl rfl (Nat.le_of_ble_eq_true rfl) (Nat.zero_le _) (sp_X9_has (by first | assumption | exact hI.1 _ | exact hI1.1 _ | exact hI2.1 _ | omega | (refine ⟨?_, ?_⟩ <;> omega)) (kq.v ?_))
      refine R_iconst dX9_coded_37 (v := zI (1)) rfl ?_
      refine Z_icmp_ne dX9_coded_38 (by first | exact hI.1 _ | assumption | exact hI1.1 _ | exact hI2.1 _ | exact ⟨by omega, by omega⟩) (by first | exact hI.1 _ | assumption | exact hI1.1 _ | exact hI2.1 _ | exact ⟨by omega, by omega⟩) (tgt := 53) (by decide) (fun c_38 => ?_) (fun c_38 => ?_)
      · skip
        refine R_bipush dX9_coded_53 (v := zI (14)) rfl ?_
        refine R_aload_n dX9_coded_55 rfl rfl rfl ?_
        refine R_iload_n dX9_coded_56 rfl rfl ?_
        refine R_iconst dX9_coded_57 (v := zI (5)) rfl ?_
        refine R_cV2 0 dX9_coded_58 rfl cv_X9_49 mh_get0 rfl rfl (Nat.le_of_ble_eq_true rfl) (Nat.zero_le _) (sp_X9_has (by first | assumption | exact hI.1 _ | exact hI1.1 _ | exact hI2.1 _ | omega | (refine ⟨?_, ?_⟩ <;> omega)) (kq.v ?_))
        refine Z_iadd dX9_coded_61 ?_
        refine Z_retI dX9_coded_62 (rf_i rfl) ?_
        exact mQi hQ rfl (by unfold codedF; first | (rw [if_pos (by omega)]; done) | (rw [if_neg (by omega), if_pos (by omega)]; done) | (rw [if_neg (by omega), if_neg (by omega), if_pos (by omega)]; done) | (rw [if_neg (by omega), if_neg (by omega), if_neg (by omega)]; done))
      · skip
        refine R_bipush dX9_coded_41 (v := zI (10)) rfl ?_
        refine R_aload_n dX9_coded_43 rfl rfl rfl ?_
        refine R_iload_n dX9_coded_44 rfl rfl ?_
        refine R_iconst dX9_coded_45 (v := zI (5)) rfl ?_
        refine R_cV2 0 dX9_coded_46 rfl cv_X9_49 mh_get0 rfl rfl (Nat.le_of_ble_eq_true rfl) (Nat.zero_le _) (sp_X9_has (by first | assumption | exact hI.1 _ | exact hI1.1 _ | exact hI2.1 _ | omega | (refine ⟨?_, ?_⟩ <;> omega)) (kq.v ?_))
        refine Z_iadd dX9_coded_49 ?_
        refine R_goto dX9_coded_50 (tgt := 62) (by decide) ?_
        refine Z_retI dX9_coded_62 (rf_i rfl) ?_
        exact mQi hQ rfl (by unfold codedF; first | (rw [if_pos (by omega)]; done) | (rw [if_neg (by omega), if_pos (by omega)]; done) | (rw [if_neg (by omega), if_neg (by omega), if_pos (by omega)]; done) | (rw [if_neg (by omega), if_neg (by omega), if_neg (by omega)]; done))
    · skip
      refine R_aload_n dX9_coded_22 rfl rfl rfl ?_
      refine R_iload_n dX9_coded_23 rfl rfl ?_
      refine R_iconst dX9_coded_24 (v := zI (0)) rfl ?_
      refine R_cV2 0 dX9_coded_25 rfl cv_X9_49 mh_get0 rfl rfl (Nat.le_of_ble_eq_true rfl) (Nat.zero_le _) (sp_X9_has (by first | assumption | exact hI.1 _ | exact hI1.1 _ | exact hI2.1 _ | omega | (refine ⟨?_, ?_⟩ <;> omega)) (kq.v ?_))
      refine R_goto dX9_coded_28 (tgt := 62) (by decide) ?_
      refine Z_retI dX9_coded_62 (rf_i rfl) ?_
      exact mQi hQ rfl (by unfold codedF; first | (rw [if_pos (by omega)]; done) | (rw [if_neg (by omega), if_pos (by omega)]; done) | (rw [if_neg (by omega), if_neg (by omega), if_pos (by omega)]; done) | (rw [if_neg (by omega), if_neg (by omega), if_neg (by omega)]; done))
  · skip
    refine R_iconst dX9_coded_11 (v := zI (0)) rfl ?_
    refine Z_retI dX9_coded_12 (rf_i rfl) ?_
    exact mQi hQ rfl (by unfold codedF; first | (rw [if_pos (by omega)]; done) | (rw [if_neg (by omega), if_pos (by omega)]; done) | (rw [if_neg (by omega), if_neg (by omega), if_pos (by omega)]; done) | (rw [if_neg (by omega), if_neg (by omega), if_neg (by omega)]; done))

theorem loadS_bd {σ : St} (hI : MI σ) (c : Int) : ∀ n : Nat, (n : Int) ≤ σ 117 → 0 ≤ loadS σ c n ∧ loadS σ c n ≤ 5 * n
  | 0, _ => by simp [loadS]
  | n + 1, h => by
    have ih := loadS_bd hI c n (by omega)
    have hp := hI.2.2.2.2.2.2.2.2 n (by omega)
    simp only [loadS]
    split <;> omega
theorem loadF_bd {σ : St} (hI : MI σ) (c : Int) : 0 ≤ loadF σ c ∧ loadF σ c ≤ 40 := by
  have h117 := hI.2.2.1
  have := loadS_bd hI c (σ 117).toNat (by omega)
  unfold loadF
  omega
theorem codedF_bd {σ : St} (hI : MI σ) {p : Int} (hp : 0 ≤ p) : 0 ≤ codedF σ p ∧ codedF σ p ≤ 17 ∧ (σ 117 ≤ p → codedF σ p = 0) := by
  unfold codedF
  split
  · omega
  · have h := hI.2.2.2.2.2.2.2.2 p (by omega)
    refine ⟨?_, ?_, fun z => by omega⟩ <;> (split <;> (try split) <;> omega)
def firA (σ : St) : Nat → Int
  | 0 => 0
  | n + 1 => firA σ n * 10 + σ (97 + 5 * (n : Int) + 0)
def firB (σ : St) : Nat → Int
  | 0 => firA σ 4
  | n + 1 => firB σ n * 18 + codedF σ (n : Int)
def secS (σ : St) : Nat → Int
  | 0 => 0
  | n + 1 => secS σ n * 18 + codedF σ (4 + (n : Int))
abbrev firF (σ : St) : Int := firB σ 4
abbrev secF (σ : St) : Int := secS σ 4
theorem firA_bd {σ : St} (hI : MI σ) : 0 ≤ firA σ 4 ∧ firA σ 4 ≤ 9999 := by
  have h0 := (hI.2.2.2.2.2.2.1 ((0 : Nat) : Int) (by decide)).1
  have h1 := (hI.2.2.2.2.2.2.1 ((1 : Nat) : Int) (by decide)).1
  have h2 := (hI.2.2.2.2.2.2.1 ((2 : Nat) : Int) (by decide)).1
  have h3 := (hI.2.2.2.2.2.2.1 ((3 : Nat) : Int) (by decide)).1
  simp only [firA]
  omega
theorem firF_bd {σ : St} (hI : MI σ) : 0 ≤ firF σ ∧ firF σ ≤ 1049759999 := by
  have h := firA_bd hI
  have h0 := codedF_bd hI (p := ((0 : Nat) : Int)) (by decide)
  have h1 := codedF_bd hI (p := ((1 : Nat) : Int)) (by decide)
  have h2 := codedF_bd hI (p := ((2 : Nat) : Int)) (by decide)
  have h3 := codedF_bd hI (p := ((3 : Nat) : Int)) (by decide)
  simp only [firF, firB]
  omega
theorem secF_bd {σ : St} (hI : MI σ) : 0 ≤ secF σ ∧ secF σ ≤ 104975 := by
  have h0 := codedF_bd hI (p := 4 + ((0 : Nat) : Int)) (by decide)
  have h1 := codedF_bd hI (p := 4 + ((1 : Nat) : Int)) (by decide)
  have h2 := codedF_bd hI (p := 4 + ((2 : Nat) : Int)) (by decide)
  have h3 := codedF_bd hI (p := 4 + ((3 : Nat) : Int)) (by decide)
  simp only [secF, secS]
  omega

theorem lp_first {Ω : Wd} {d r : Nat} {Q : Hp → Out → Prop} {b : Nat} {h0 : Hp} {σ : St}  (hI : MI σ) : ∀ (k n : Nat), n + k = 4 → At Ω M_X9_first (d + 2) r Q 27 [some (.ref b), some (.int (zI (firA σ 4))), none] [] (mh b h0 (σ)) → At Ω M_X9_first (d + 2) r Q 4 [some (.ref b), some (.int (zI (firA σ n))), some (.int (zI (((n : Nat) : Int))))] [] (mh b h0 (σ)) := by
  intro k
  induction k with
  | zero =>
    intro n hn hX
    have hnN : n = 4 := by omega
    rw [hnN]
    refine R_iload_n dX9_first_4 rfl rfl ?_
    refine R_iconst dX9_first_5 (v := zI (4)) rfl ?_
    refine Z_icmp_ge dX9_first_6 (by first | exact hI.1 _ | assumption | exact hI1.1 _ | exact hI2.1 _ | exact ⟨by omega, by omega⟩) (by first | exact hI.1 _ | assumption | exact hI1.1 _ | exact hI2.1 _ | exact ⟨by omega, by omega⟩) (tgt := 27) (by decide) (fun c_6 => ?_) (fun c_6 => absurd c_6 (by omega))
    exact At.dropS (L' := [some (.ref b), some (.int (zI (firA σ 4))), none]) ⟨rfl, rfl, trivial⟩ hX
  | succ k ih =>
    intro n hn hX
    refine R_iload_n dX9_first_4 rfl rfl ?_
    refine R_iconst dX9_first_5 (v := zI (4)) rfl ?_
    refine Z_icmp_ge dX9_first_6 (by first | exact hI.1 _ | assumption | exact hI1.1 _ | exact hI2.1 _ | exact ⟨by omega, by omega⟩) (by first | exact hI.1 _ | assumption | exact hI1.1 _ | exact hI2.1 _ | exact ⟨by omega, by omega⟩) (tgt := 27) (by decide) (fun c_6 => absurd c_6 (by omega)) (fun c_6 => ?_)
    refine R_iload_n dX9_first_9 rfl rfl ?_
    refine R_bipush dX9_first_10 (v := zI (10)) rfl ?_
    refine Z_imul dX9_first_12 ?_
    refine R_aload_n dX9_first_13 rfl rfl rfl ?_
    refine R_iload_n dX9_first_14 rfl rfl ?_
    refine R_iconst dX9_first_15 (v := zI (0)) rfl ?_
    refine R_cV2 0 dX9_first_16 rfl cv_X9_53 mh_get0 rfl rfl (Nat.le_of_ble_eq_true rfl) (Nat.zero_le _) (sp_X9_of (by first | assumption | exact hI.1 _ | exact hI1.1 _ | exact hI2.1 _ | omega | (refine ⟨?_, ?_⟩ <;> omega)) (kq.v ?_))
    refine Z_iadd dX9_first_19 ?_
    refine R_istore_n dX9_first_20 rfl (by decide) rfl rfl ?_
    refine Z_iinc dX9_first_21 rfl (by decide) rfl rfl ?_
    refine R_goto dX9_first_24 (tgt := 4) (by decide) ?_
    exact At.dropS (L' := [some (.ref b), some (.int (zI (firA σ (n + 1)))), some (.int (zI ((((n + 1) : Nat) : Int))))]) ⟨rfl, rfl, rfl, trivial⟩ (ih (n + 1) (by omega) hX)

theorem lp_first2 {Ω : Wd} {d r : Nat} {Q : Hp → Out → Prop} {b : Nat} {h0 : Hp} {σ : St}  (hI : MI σ) : ∀ (k n : Nat), n + k = 4 → At Ω M_X9_first (d + 2) r Q 51 [some (.ref b), some (.int (zI (firB σ 4))), none] [] (mh b h0 (σ)) → At Ω M_X9_first (d + 2) r Q 29 [some (.ref b), some (.int (zI (firB σ n))), some (.int (zI (((n : Nat) : Int))))] [] (mh b h0 (σ)) := by
  intro k
  induction k with
  | zero =>
    intro n hn hX
    have hnN : n = 4 := by omega
    rw [hnN]
    refine R_iload_n dX9_first_29 rfl rfl ?_
    refine R_iconst dX9_first_30 (v := zI (4)) rfl ?_
    refine Z_icmp_ge dX9_first_31 (by first | exact hI.1 _ | assumption | exact hI1.1 _ | exact hI2.1 _ | exact ⟨by omega, by omega⟩) (by first | exact hI.1 _ | assumption | exact hI1.1 _ | exact hI2.1 _ | exact ⟨by omega, by omega⟩) (tgt := 51) (by decide) (fun c_31 => ?_) (fun c_31 => absurd c_31 (by omega))
    exact At.dropS (L' := [some (.ref b), some (.int (zI (firB σ 4))), none]) ⟨rfl, rfl, trivial⟩ hX
  | succ k ih =>
    intro n hn hX
    refine R_iload_n dX9_first_29 rfl rfl ?_
    refine R_iconst dX9_first_30 (v := zI (4)) rfl ?_
    refine Z_icmp_ge dX9_first_31 (by first | exact hI.1 _ | assumption | exact hI1.1 _ | exact hI2.1 _ | exact ⟨by omega, by omega⟩) (by first | exact hI.1 _ | assumption | exact hI1.1 _ | exact hI2.1 _ | exact ⟨by omega, by omega⟩) (tgt := 51) (by decide) (fun c_31 => absurd c_31 (by omega)) (fun c_31 => ?_)
    refine R_iload_n dX9_first_34 rfl rfl ?_
    refine R_bipush dX9_first_35 (v := zI (18)) rfl ?_
    refine Z_imul dX9_first_37 ?_
    refine R_aload_n dX9_first_38 rfl rfl rfl ?_
    refine R_iload_n dX9_first_39 rfl rfl ?_
    refine R_cV1 0 dX9_first_40 rfl cv_X9_60 mh_get0 rfl rfl (Nat.le_of_ble_eq_true rfl) (Nat.zero_le _) (sp_X9_coded (by first | assumption | exact hI.1 _ | exact hI1.1 _ | exact hI2.1 _ | omega | (refine ⟨?_, ?_⟩ <;> omega)) (by first | assumption | exact hI.1 _ | exact hI1.1 _ | exact hI2.1 _ | omega | (refine ⟨?_, ?_⟩ <;> omega)) (kq.v ?_))
    refine Z_iadd dX9_first_43 ?_
    refine R_istore_n dX9_first_44 rfl (by decide) rfl rfl ?_
    refine Z_iinc dX9_first_45 rfl (by decide) rfl rfl ?_
    refine R_goto dX9_first_48 (tgt := 29) (by decide) ?_
    exact At.dropS (L' := [some (.ref b), some (.int (zI (firB σ (n + 1)))), some (.int (zI ((((n + 1) : Nat) : Int))))]) ⟨rfl, rfl, rfl, trivial⟩ (ih (n + 1) (by omega) hX)

theorem sp_X9_first {Ω : Wd} {d r : Nat} {Q : Hp → Out → Prop} {b : Nat} {h0 : Hp} {σ : St} (hI : MI σ) (hQ : Q (mh b h0 (σ)) (.inl (some (.int (zI (firF σ)))))) : Ok Ω M_X9_first (d + 2) r [.ref b] (mh b h0 (σ)) Q := by
  refine Ok.of (by decide) rfl (Nat.le_of_ble_eq_true rfl) rfl ?_
  refine R_iconst dX9_first_0 (v := zI (0)) rfl ?_
  refine R_istore_n dX9_first_1 rfl (by decide) rfl rfl ?_
  refine R_iconst dX9_first_2 (v := zI (0)) rfl ?_
  refine R_istore_n dX9_first_3 rfl (by decide) rfl rfl ?_
  refine At.dropS (L' := [some (.ref b), some (.int (zI (firA σ 0))), some (.int (zI (((0 : Nat) : Int))))]) ⟨rfl, rfl, rfl, trivial⟩ (lp_first hI _ 0 (Nat.zero_add _) ?_)
  refine R_iconst dX9_first_27 (v := zI (0)) rfl ?_
  refine R_istore_n dX9_first_28 rfl (by decide) rfl rfl ?_
  refine At.dropS (L' := [some (.ref b), some (.int (zI (firB σ 0))), some (.int (zI (((0 : Nat) : Int))))]) ⟨rfl, rfl, rfl, trivial⟩ (lp_first2 hI _ 0 (Nat.zero_add _) ?_)
  refine R_iload_n dX9_first_51 rfl rfl ?_
  refine Z_retI dX9_first_52 (rf_i rfl) ?_
  first | exact hQ | exact mQi hQ rfl (by first | rfl | omega | exact b2i_1 (by omega) | exact b2i_0 (by omega) | (simp [*]; done))

theorem lp_second {Ω : Wd} {d r : Nat} {Q : Hp → Out → Prop} {b : Nat} {h0 : Hp} {σ : St}  (hI : MI σ) : ∀ (k n : Nat), n + k = 4 → At Ω M_X9_second (d + 2) r Q 27 [some (.ref b), some (.int (zI (secS σ 4))), none] [] (mh b h0 (σ)) → At Ω M_X9_second (d + 2) r Q 4 [some (.ref b), some (.int (zI (secS σ n))), some (.int (zI (4 + ((n : Nat) : Int))))] [] (mh b h0 (σ)) := by
  intro k
  induction k with
  | zero =>
    intro n hn hX
    have hnN : n = 4 := by omega
    rw [hnN]
    refine R_iload_n dX9_second_4 rfl rfl ?_
    refine R_bipush dX9_second_5 (v := zI (8)) rfl ?_
    refine Z_icmp_ge dX9_second_7 (by first | exact hI.1 _ | assumption | exact hI1.1 _ | exact hI2.1 _ | exact ⟨by omega, by omega⟩) (by first | exact hI.1 _ | assumption | exact hI1.1 _ | exact hI2.1 _ | exact ⟨by omega, by omega⟩) (tgt := 27) (by decide) (fun c_7 => ?_) (fun c_7 => absurd c_7 (by omega))
    exact At.dropS (L' := [some (.ref b), some (.int (zI (secS σ 4))), none]) ⟨rfl, rfl, trivial⟩ hX
  | succ k ih =>
    intro n hn hX
    refine R_iload_n dX9_second_4 rfl rfl ?_
    refine R_bipush dX9_second_5 (v := zI (8)) rfl ?_
    refine Z_icmp_ge dX9_second_7 (by first | exact hI.1 _ | assumption | exact hI1.1 _ | exact hI2.1 _ | exact ⟨by omega, by omega⟩) (by first | exact hI.1 _ | assumption | exact hI1.1 _ | exact hI2.1 _ | exact ⟨by omega, by omega⟩) (tgt := 27) (by decide) (fun c_7 => absurd c_7 (by omega)) (fun c_7 => ?_)
    refine R_iload_n dX9_second_10 rfl rfl ?_
    refine R_bipush dX9_second_11 (v := zI (18)) rfl ?_
    refine Z_imul dX9_second_13 ?_
    refine R_aload_n dX9_second_14 rfl rfl rfl ?_
    refine R_iload_n dX9_second_15 rfl rfl ?_
    refine R_cV1 0 dX9_second_16 rfl cv_X9_60 mh_get0 rfl rfl (Nat.le_of_ble_eq_true rfl) (Nat.zero_le _) (sp_X9_coded (by first | assumption | exact hI.1 _ | exact hI1.1 _ | exact hI2.1 _ | omega | (refine ⟨?_, ?_⟩ <;> omega)) (by first | assumption | exact hI.1 _ | exact hI1.1 _ | exact hI2.1 _ | omega | (refine ⟨?_, ?_⟩ <;> omega)) (kq.v ?_))
    refine Z_iadd dX9_second_19 ?_
    refine R_istore_n dX9_second_20 rfl (by decide) rfl rfl ?_
    refine Z_iinc dX9_second_21 rfl (by decide) rfl rfl ?_
    refine R_goto dX9_second_24 (tgt := 4) (by decide) ?_
    exact At.dropS (L' := [some (.ref b), some (.int (zI (secS σ (n + 1)))), some (.int (zI (4 + (((n + 1) : Nat) : Int))))]) ⟨rfl, rfl, rfl, trivial⟩ (ih (n + 1) (by omega) hX)

theorem sp_X9_second {Ω : Wd} {d r : Nat} {Q : Hp → Out → Prop} {b : Nat} {h0 : Hp} {σ : St} (hI : MI σ) (hQ : Q (mh b h0 (σ)) (.inl (some (.int (zI (secF σ)))))) : Ok Ω M_X9_second (d + 2) r [.ref b] (mh b h0 (σ)) Q := by
  refine Ok.of (by decide) rfl (Nat.le_of_ble_eq_true rfl) rfl ?_
  refine R_iconst dX9_second_0 (v := zI (0)) rfl ?_
  refine R_istore_n dX9_second_1 rfl (by decide) rfl rfl ?_
  refine R_iconst dX9_second_2 (v := zI (4)) rfl ?_
  refine R_istore_n dX9_second_3 rfl (by decide) rfl rfl ?_
  refine At.dropS (L' := [some (.ref b), some (.int (zI (secS σ 0))), some (.int (zI (4 + ((0 : Nat) : Int))))]) ⟨rfl, rfl, rfl, trivial⟩ (lp_second hI _ 0 (Nat.zero_add _) ?_)
  refine R_iload_n dX9_second_27 rfl rfl ?_
  refine Z_retI dX9_second_28 (rf_i rfl) ?_
  first | exact hQ | exact mQi hQ rfl (by first | rfl | omega | exact b2i_1 (by omega) | exact b2i_0 (by omega) | (simp [*]; done))

theorem rg_us {σ : St} (h : ∀ k, rg (σ k)) {i v : Int} (hv : rg v) : ∀ k, rg (us σ i v k) := by
  intro k
  unfold us
  split
  · exact hv
  · exact h k
theorem MI_free {σ : St} (hI : MI σ) {i v : Int} (hi : (166 ≤ i ∧ i < 174) ∨ (175 ≤ i ∧ i < 700) ∨ i = 701 ∨ 703 ≤ i) (hv : rg v) : MI (us σ i v) := by
  obtain ⟨h1, h2, h3, h4, h5, h6, h7, h8, h9⟩ := hI
  have e0 : us σ i v 0 = σ 0 := us_ne (by omega)
  have e1 : us σ i v 117 = σ 117 := us_ne (by omega)
  refine ⟨rg_us h1 hv, by rw [e0]; exact h2, by rw [e1]; exact h3, by rw [us_ne (by omega)]; exact h4, by rw [us_ne (by omega)]; exact h5, by rw [us_ne (by omega)]; exact h6, ?_, ?_, ?_⟩
  · intro c hc
    rw [e0, us_ne (by omega), us_ne (by omega), us_ne (by omega)]; exact h7 c hc
  · intro k hk
    rw [e0] at hk
    rw [us_ne (by omega), us_ne (by omega), us_ne (by omega), us_ne (by omega)]; exact h8 k hk
  · intro p hp
    rw [e1] at hp
    rw [us_ne (by omega), us_ne (by omega), us_ne (by omega), us_ne (by omega), us_ne (by omega), us_ne (by omega)]; exact h9 p hp
theorem MI_174 {σ : St} (hI : MI σ) {v : Int} (hv : 0 ≤ v ∧ v ≤ 61) : MI (us σ 174 v) := by
  obtain ⟨h1, h2, h3, h4, h5, h6, h7, h8, h9⟩ := hI
  have e0 : us σ 174 v 0 = σ 0 := us_ne (by omega)
  have e1 : us σ 174 v 117 = σ 117 := us_ne (by omega)
  refine ⟨rg_us h1 ⟨by omega, by omega⟩, by rw [e0]; exact h2, by rw [e1]; exact h3, by rw [us_eq]; exact hv, by rw [us_ne (by omega)]; exact h5, by rw [us_ne (by omega)]; exact h6, ?_, ?_, ?_⟩
  · intro c hc
    rw [e0, us_ne (by omega), us_ne (by omega), us_ne (by omega)]; exact h7 c hc
  · intro k hk
    rw [e0] at hk
    rw [us_ne (by omega), us_ne (by omega), us_ne (by omega), us_ne (by omega)]; exact h8 k hk
  · intro p hp
    rw [e1] at hp
    rw [us_ne (by omega), us_ne (by omega), us_ne (by omega), us_ne (by omega), us_ne (by omega), us_ne (by omega)]; exact h9 p hp
/-- a note is kept -/
def notesA (σ : St) : St := us σ (175 + 2 * σ 174) (firF σ)
def notesB (σ : St) : St := us (notesA σ) (175 + 2 * notesA σ 174 + 1) (secF (notesA σ))
def notesF (σ : St) : St := us (notesB σ) 174 (notesB σ 174 + 1)

theorem sp_X9_notes {Ω : Wd} {d r : Nat} {Q : Hp → Out → Prop} {b : Nat} {h0 : Hp} {σ : St} (hI : MI σ) (h60 : σ 174 ≤ 60) (hQ : Q (mh b h0 (notesF σ)) (.inl none)) : Ok Ω M_X9_notes (d + 3) r [.ref b] (mh b h0 (σ)) Q := by
  refine Ok.of (by decide) rfl (Nat.le_of_ble_eq_true rfl) rfl ?_
  have h174 := hI.2.2.2.1
  have hb1 := firF_bd hI
  have hI2 : MI (notesA σ) := MI_free hI (by omega) ⟨by omega, by omega⟩
  have hb2 := secF_bd hI2
  have e2 : notesA σ 174 = σ 174 := us_ne (by omega)
  have e3 : notesB σ 174 = σ 174 := by rw [← e2]; exact us_ne (by omega)
  refine R_aload_n dX9_notes_0 rfl rfl rfl ?_
  refine Zm_gf dX9_notes_1 gf_X9_7 rfl ?_
  refine R_sipush dX9_notes_4 (v := zI (175)) rfl ?_
  refine R_iconst dX9_notes_7 (v := zI (2)) rfl ?_
  refine R_aload_n dX9_notes_8 rfl rfl rfl ?_
  refine Zm_gf dX9_notes_9 gf_X9_7 rfl ?_
  refine R_sipush dX9_notes_12 (v := zI (174)) rfl ?_
  refine Zm_ld1 dX9_notes_15 (by omega) ?_
  refine Z_imul dX9_notes_16 ?_
  refine Z_iadd dX9_notes_17 ?_
  refine R_aload_n dX9_notes_18 rfl rfl rfl ?_
  refine R_cV0 0 dX9_notes_19 rfl cv_X9_64 mh_get0 rfl rfl (Nat.le_of_ble_eq_true rfl) (Nat.zero_le _) (sp_X9_first (by first | assumption | exact hI.1 _ | exact hI1.1 _ | exact hI2.1 _ | omega | (refine ⟨?_, ?_⟩ <;> omega)) (kq.v ?_))
  refine Zm_st1 dX9_notes_22 (by omega) ?_
  refine At.dropS [some (.ref b)] ⟨rfl, trivial⟩ (show At Ω _ _ _ _ _ _ _ (mh b h0 (notesA σ)) from ?_)
  refine R_aload_n dX9_notes_23 rfl rfl rfl ?_
  refine Zm_gf dX9_notes_24 gf_X9_7 rfl ?_
  refine R_sipush dX9_notes_27 (v := zI (175)) rfl ?_
  refine R_iconst dX9_notes_30 (v := zI (2)) rfl ?_
  refine R_aload_n dX9_notes_31 rfl rfl rfl ?_
  refine Zm_gf dX9_notes_32 gf_X9_7 rfl ?_
  refine R_sipush dX9_notes_35 (v := zI (174)) rfl ?_
  refine Zm_ld1 dX9_notes_38 (by omega) ?_
  refine Z_imul dX9_notes_39 ?_
  refine Z_iadd dX9_notes_40 ?_
  refine R_iconst dX9_notes_41 (v := zI (1)) rfl ?_
  refine Z_iadd dX9_notes_42 ?_
  refine R_aload_n dX9_notes_43 rfl rfl rfl ?_
  refine R_cV0 0 dX9_notes_44 rfl cv_X9_68 mh_get0 rfl rfl (Nat.le_of_ble_eq_true rfl) (Nat.zero_le _) (sp_X9_second (by first | assumption | exact hI.1 _ | exact hI1.1 _ | exact hI2.1 _ | omega | (refine ⟨?_, ?_⟩ <;> omega)) (kq.v ?_))
  refine Zm_st1 dX9_notes_47 (by omega) ?_
  show At Ω _ _ _ _ _ _ _ (mh b h0 (notesB σ))
  refine R_aload_n dX9_notes_48 rfl rfl rfl ?_
  refine Zm_gf dX9_notes_49 gf_X9_7 rfl ?_
  refine R_sipush dX9_notes_52 (v := zI (174)) rfl ?_
  refine R_dup2 dX9_notes_55 rfl rfl ?_
  refine Zm_ld1 dX9_notes_56 (by omega) ?_
  refine R_iconst dX9_notes_57 (v := zI (1)) rfl ?_
  refine Z_iadd dX9_notes_58 ?_
  refine Zm_st1 dX9_notes_59 (by omega) ?_
  refine Z_retV dX9_notes_60 (rf_v rfl) ?_
  exact hQ

theorem sp_X9_drops {Ω : Wd} {d r : Nat} {Q : Hp → Out → Prop} {b : Nat} {h0 : Hp} {σ : St} (hI : MI σ) (hQ : Q (mh b h0 (notesF (us σ 174 0))) (.inl none)) : Ok Ω M_X9_drops (d + 4) r [.ref b] (mh b h0 (σ)) Q := by
  refine Ok.of (by decide) rfl (Nat.le_of_ble_eq_true rfl) rfl ?_
  have hI3 := MI_174 hI (v := 0) (by decide)
  refine R_aload_n dX9_drops_0 rfl rfl rfl ?_
  refine Zm_gf dX9_drops_1 gf_X9_7 rfl ?_
  refine R_sipush dX9_drops_4 (v := zI (174)) rfl ?_
  refine R_iconst dX9_drops_7 (v := zI (0)) rfl ?_
  refine Zm_st1 dX9_drops_8 (by omega) ?_
  refine R_aload_n dX9_drops_9 rfl rfl rfl ?_
  refine R_cV0 0 dX9_drops_10 rfl cv_X9_35 mh_get0 rfl rfl (Nat.le_of_ble_eq_true rfl) (Nat.zero_le _) (sp_X9_notes hI3 (by rw [us_eq]; decide) (kq.n ?_))
  refine Z_retV dX9_drops_13 (rf_v rfl) ?_
  exact hQ

/-- how often a position was noted -/
def timS (σ : St) (x y : Int) : Nat → Int
  | 0 => 0
  | n + 1 => timS σ x y n + if σ (175 + 2 * (n : Int)) = x ∧ σ (175 + 2 * (n : Int) + 1) = y then 1 else 0
abbrev timF (σ : St) (x y : Int) : Int := timS σ x y (σ 174).toNat
theorem timS_bd (σ : St) (x y : Int) : ∀ n : Nat, 0 ≤ timS σ x y n ∧ timS σ x y n ≤ n
  | 0 => by simp [timS]
  | n + 1 => by
    have := timS_bd σ x y n
    simp only [timS]
    split <;> omega

theorem timF_bd {σ : St} (hI : MI σ) (x y : Int) : 0 ≤ timF σ x y ∧ timF σ x y ≤ 61 := by
  have h174 := hI.2.2.2.1
  have := timS_bd σ x y (σ 174).toNat
  unfold timF
  omega

theorem lp_timesOf {Ω : Wd} {d r : Nat} {Q : Hp → Out → Prop} {b : Nat} {h0 : Hp} {σ : St} {x y : Int} (hI : MI σ) (hx : rg x) (hy : rg y) : ∀ (k n : Nat), n + k = (σ 174).toNat → At Ω M_X9_timesOf d r Q 68 [some (.ref b), some (.int (zI (x))), some (.int (zI (y))), some (.int (zI (timS σ x y (σ 174).toNat))), none] [] (mh b h0 (σ)) → At Ω M_X9_timesOf d r Q 5 [some (.ref b), some (.int (zI (x))), some (.int (zI (y))), some (.int (zI (timS σ x y n))), some (.int (zI (((n : Nat) : Int))))] [] (mh b h0 (σ)) := by
  intro k
  induction k with
  | zero =>
    intro n hn hX
    have hnN : n = (σ 174).toNat := by omega
    rw [hnN]
    have h174 := hI.2.2.2.1
    refine R_iload dX9_timesOf_5 rfl ?_
    refine R_aload_n dX9_timesOf_7 rfl rfl rfl ?_
    refine Zm_gf dX9_timesOf_8 gf_X9_7 rfl ?_
    refine R_sipush dX9_timesOf_11 (v := zI (174)) rfl ?_
    refine Zm_ld1 dX9_timesOf_14 (by omega) ?_
    refine Z_icmp_ge dX9_timesOf_15 (by first | exact hI.1 _ | assumption | exact hI1.1 _ | exact hI2.1 _ | exact ⟨by omega, by omega⟩) (by first | exact hI.1 _ | assumption | exact hI1.1 _ | exact hI2.1 _ | exact ⟨by omega, by omega⟩) (tgt := 68) (by decide) (fun c_15 => ?_) (fun c_15 => absurd c_15 (by omega))
    exact At.dropS (L' := [some (.ref b), some (.int (zI (x))), some (.int (zI (y))), some (.int (zI (timS σ x y (σ 174).toNat))), none]) ⟨rfl, rfl, rfl, rfl, trivial⟩ hX
  | succ k ih =>
    intro n hn hX
    have h174 := hI.2.2.2.1
    refine R_iload dX9_timesOf_5 rfl ?_
    refine R_aload_n dX9_timesOf_7 rfl rfl rfl ?_
    refine Zm_gf dX9_timesOf_8 gf_X9_7 rfl ?_
    refine R_sipush dX9_timesOf_11 (v := zI (174)) rfl ?_
    refine Zm_ld1 dX9_timesOf_14 (by omega) ?_
    refine Z_icmp_ge dX9_timesOf_15 (by first | exact hI.1 _ | assumption | exact hI1.1 _ | exact hI2.1 _ | exact ⟨by omega, by omega⟩) (by first | exact hI.1 _ | assumption | exact hI1.1 _ | exact hI2.1 _ | exact ⟨by omega, by omega⟩) (tgt := 68) (by decide) (fun c_15 => absurd c_15 (by omega)) (fun c_15 => ?_)
    refine R_iload_n dX9_timesOf_18 rfl rfl ?_
    refine z_joinI (if σ (175 + 2 * ((n : Nat) : Int)) = x ∧ σ (175 + 2 * ((n : Nat) : Int) + 1) = y then 1 else 0) 60 ?_ (fun jj_19 => ?_)
    · skip
      refine Z_iadd dX9_timesOf_60 ?_
      refine R_istore_n dX9_timesOf_61 rfl (by decide) rfl rfl ?_
      refine Z_iinc dX9_timesOf_62 rfl (by decide) rfl rfl ?_
      refine R_goto dX9_timesOf_65 (tgt := 5) (by decide) ?_
      exact At.dropS (L' := [some (.ref b), some (.int (zI (x))), some (.int (zI (y))), some (.int (zI (timS σ x y (n + 1)))), some (.int (zI ((((n + 1) : Nat) : Int))))]) ⟨rfl, rfl, rfl, rfl, rfl, trivial⟩ (ih (n + 1) (by omega) hX)
    · skip
      refine R_aload_n dX9_timesOf_19 rfl rfl rfl ?_
      refine Zm_gf dX9_timesOf_20 gf_X9_7 rfl ?_
      refine R_sipush dX9_timesOf_23 (v := zI (175)) rfl ?_
      refine R_iconst dX9_timesOf_26 (v := zI (2)) rfl ?_
      refine R_iload dX9_timesOf_27 rfl ?_
      refine Z_imul dX9_timesOf_29 ?_
      refine Z_iadd dX9_timesOf_30 ?_
      refine Zm_ld1 dX9_timesOf_31 (by omega) ?_
      refine R_iload_n dX9_timesOf_32 rfl rfl ?_
      refine Z_icmp_ne dX9_timesOf_33 (by first | exact hI.1 _ | assumption | exact hI1.1 _ | exact hI2.1 _ | exact ⟨by omega, by omega⟩) (by first | exact hI.1 _ | assumption | exact hI1.1 _ | exact hI2.1 _ | exact ⟨by omega, by omega⟩) (tgt := 59) (by decide) (fun c_33 => ?_) (fun c_33 => ?_)
      · skip
        refine R_iconst dX9_timesOf_59 (v := zI (0)) rfl ?_
        exact jj_19 _ (by first | rfl | (simp [*]; done) | omega | grind)
      · skip
        refine R_aload_n dX9_timesOf_36 rfl rfl rfl ?_
        refine Zm_gf dX9_timesOf_37 gf_X9_7 rfl ?_
        refine R_sipush dX9_timesOf_40 (v := zI (175)) rfl ?_
        refine R_iconst dX9_timesOf_43 (v := zI (2)) rfl ?_
        refine R_iload dX9_timesOf_44 rfl ?_
        refine Z_imul dX9_timesOf_46 ?_
        refine Z_iadd dX9_timesOf_47 ?_
        refine R_iconst dX9_timesOf_48 (v := zI (1)) rfl ?_
        refine Z_iadd dX9_timesOf_49 ?_
        refine Zm_ld1 dX9_timesOf_50 (by omega) ?_
        refine R_iload_n dX9_timesOf_51 rfl rfl ?_
        refine Z_icmp_ne dX9_timesOf_52 (by first | exact hI.1 _ | assumption | exact hI1.1 _ | exact hI2.1 _ | exact ⟨by omega, by omega⟩) (by first | exact hI.1 _ | assumption | exact hI1.1 _ | exact hI2.1 _ | exact ⟨by omega, by omega⟩) (tgt := 59) (by decide) (fun c_52 => ?_) (fun c_52 => ?_)
        · skip
          refine R_iconst dX9_timesOf_59 (v := zI (0)) rfl ?_
          exact jj_19 _ (by first | rfl | (simp [*]; done) | omega | grind)
        · skip
          refine R_iconst dX9_timesOf_55 (v := zI (1)) rfl ?_
          refine R_goto dX9_timesOf_56 (tgt := 60) (by decide) ?_
          exact jj_19 _ (by first | rfl | (simp [*]; done) | omega | grind)

theorem sp_X9_timesOf {Ω : Wd} {d r : Nat} {Q : Hp → Out → Prop} {b : Nat} {h0 : Hp} {σ : St} {x y : Int} (hI : MI σ) (hx : rg x) (hy : rg y) (hQ : Q (mh b h0 (σ)) (.inl (some (.int (zI (timF σ x y)))))) : Ok Ω M_X9_timesOf d r [.ref b, .int (zI x), .int (zI y)] (mh b h0 (σ)) Q := by
  refine Ok.of (by decide) rfl (Nat.le_of_ble_eq_true rfl) rfl ?_
  refine R_iconst dX9_timesOf_0 (v := zI (0)) rfl ?_
  refine R_istore_n dX9_timesOf_1 rfl (by decide) rfl rfl ?_
  refine R_iconst dX9_timesOf_2 (v := zI (0)) rfl ?_
  refine R_istore dX9_timesOf_3 (by decide) rfl rfl ?_
  refine At.dropS (L' := [some (.ref b), some (.int (zI (x))), some (.int (zI (y))), some (.int (zI (timS σ x y 0))), some (.int (zI (((0 : Nat) : Int))))]) ⟨rfl, rfl, rfl, rfl, rfl, trivial⟩ (lp_timesOf hI hx hy _ 0 (Nat.zero_add _) ?_)
  refine R_iload_n dX9_timesOf_68 rfl rfl ?_
  refine Z_retI dX9_timesOf_69 (rf_i rfl) ?_
  first | exact hQ | exact mQi hQ rfl (by first | rfl | omega | exact b2i_1 (by omega) | exact b2i_0 (by omega) | (simp [*]; done))

def newS (σ : St) (k : Int) : Nat → Prop
  | 0 => True
  | j + 1 => newS σ k j ∧ (σ (175 + 2 * k) ≠ σ (175 + 2 * (j : Int)) ∨ σ (175 + 2 * k + 1) ≠ σ (175 + 2 * (j : Int) + 1))
noncomputable def unlS (σ : St) : Nat → Int
  | 0 => 0
  | n + 1 => unlS σ n + b2i (newS σ n n)
noncomputable abbrev unlF (σ : St) : Int := unlS σ (σ 174).toNat

theorem lp_unlike2 {Ω : Wd} {d r : Nat} {Q : Hp → Out → Prop} {b : Nat} {h0 : Hp} {σ : St} {m : Nat} {x : Int} (hI : MI σ) (hm : (m : Int) < σ 174) : ∀ (k n : Nat), n + k = m → At Ω M_X9_unlike d r Q 103 [some (.ref b), some (.int (zI (x))), some (.int (zI ((m : Int)))), some (.int (zI (b2i (newS σ (m : Int) m)))), none] [] (mh b h0 (σ)) → At Ω M_X9_unlike d r Q 21 [some (.ref b), some (.int (zI (x))), some (.int (zI ((m : Int)))), some (.int (zI (b2i (newS σ (m : Int) n)))), some (.int (zI (((n : Nat) : Int))))] [] (mh b h0 (σ)) := by
  intro k
  induction k with
  | zero =>
    intro n hn hX
    have hnN : n = m := by omega
    rw [hnN]
    have h174 := hI.2.2.2.1
    refine R_iload dX9_unlike_21 rfl ?_
    refine R_iload_n dX9_unlike_23 rfl rfl ?_
    refine Z_icmp_ge dX9_unlike_24 (by first | exact hI.1 _ | assumption | exact hI1.1 _ | exact hI2.1 _ | exact ⟨by omega, by omega⟩) (by first | exact hI.1 _ | assumption | exact hI1.1 _ | exact hI2.1 _ | exact ⟨by omega, by omega⟩) (tgt := 103) (by decide) (fun c_24 => ?_) (fun c_24 => absurd c_24 (by omega))
    exact At.dropS (L' := [some (.ref b), some (.int (zI (x))), some (.int (zI ((m : Int)))), some (.int (zI (b2i (newS σ (m : Int) m)))), none]) ⟨rfl, rfl, rfl, rfl, trivial⟩ hX
  | succ k ih =>
    intro n hn hX
    have h174 := hI.2.2.2.1
    refine R_iload dX9_unlike_21 rfl ?_
    refine R_iload_n dX9_unlike_23 rfl rfl ?_
    refine Z_icmp_ge dX9_unlike_24 (by first | exact hI.1 _ | assumption | exact hI1.1 _ | exact hI2.1 _ | exact ⟨by omega, by omega⟩) (by first | exact hI.1 _ | assumption | exact hI1.1 _ | exact hI2.1 _ | exact ⟨by omega, by omega⟩) (tgt := 103) (by decide) (fun c_24 => absurd c_24 (by omega)) (fun c_24 => ?_)
    refine z_joinB (newS σ (m : Int) n ∧ (σ (175 + 2 * (m : Int)) ≠ σ (175 + 2 * ((n : Nat) : Int)) ∨ σ (175 + 2 * (m : Int) + 1) ≠ σ (175 + 2 * ((n : Nat) : Int) + 1))) 96 ?_ (fun jt_27 jf_27 => ?_)
    · skip
      refine R_istore_n dX9_unlike_96 rfl (by decide) rfl rfl ?_
      refine Z_iinc dX9_unlike_97 rfl (by decide) rfl rfl ?_
      refine R_goto dX9_unlike_100 (tgt := 21) (by decide) ?_
      exact At.dropS (L' := [some (.ref b), some (.int (zI (x))), some (.int (zI ((m : Int)))), some (.int (zI (b2i (newS σ (m : Int) (n + 1))))), some (.int (zI ((((n + 1) : Nat) : Int))))]) ⟨rfl, rfl, rfl, rfl, rfl, trivial⟩ (ih (n + 1) (by omega) hX)
    · skip
      refine R_iload_n dX9_unlike_27 rfl rfl ?_
      refine Z_if_eqB dX9_unlike_28 (tgt := 95) (by decide) (fun c_28 => ?_) (fun c_28 => ?_)
      · skip
        refine R_iconst dX9_unlike_95 (v := zI (0)) rfl ?_
        exact jf_27 (by first | assumption | omega | grind | (simp [*]; done) | (simp_all; done))
      · skip
        refine R_aload_n dX9_unlike_31 rfl rfl rfl ?_
        refine Zm_gf dX9_unlike_32 gf_X9_7 rfl ?_
        refine R_sipush dX9_unlike_35 (v := zI (175)) rfl ?_
        refine R_iconst dX9_unlike_38 (v := zI (2)) rfl ?_
        refine R_iload_n dX9_unlike_39 rfl rfl ?_
        refine Z_imul dX9_unlike_40 ?_
        refine Z_iadd dX9_unlike_41 ?_
        refine Zm_ld1 dX9_unlike_42 (by omega) ?_
        refine R_aload_n dX9_unlike_43 rfl rfl rfl ?_
        refine Zm_gf dX9_unlike_44 gf_X9_7 rfl ?_
        refine R_sipush dX9_unlike_47 (v := zI (175)) rfl ?_
        refine R_iconst dX9_unlike_50 (v := zI (2)) rfl ?_
        refine R_iload dX9_unlike_51 rfl ?_
        refine Z_imul dX9_unlike_53 ?_
        refine Z_iadd dX9_unlike_54 ?_
        refine Zm_ld1 dX9_unlike_55 (by omega) ?_
        refine Z_icmp_ne dX9_unlike_56 (by first | exact hI.1 _ | assumption | exact hI1.1 _ | exact hI2.1 _ | exact ⟨by omega, by omega⟩) (by first | exact hI.1 _ | assumption | exact hI1.1 _ | exact hI2.1 _ | exact ⟨by omega, by omega⟩) (tgt := 91) (by decide) (fun c_56 => ?_) (fun c_56 => ?_)
        · skip
          refine R_iconst dX9_unlike_91 (v := zI (1)) rfl ?_
          refine R_goto dX9_unlike_92 (tgt := 96) (by decide) ?_
          exact jt_27 (by first | assumption | omega | grind | (simp [*]; done) | (simp_all; done))
        · skip
          refine R_aload_n dX9_unlike_59 rfl rfl rfl ?_
          refine Zm_gf dX9_unlike_60 gf_X9_7 rfl ?_
          refine R_sipush dX9_unlike_63 (v := zI (175)) rfl ?_
          refine R_iconst dX9_unlike_66 (v := zI (2)) rfl ?_
          refine R_iload_n dX9_unlike_67 rfl rfl ?_
          refine Z_imul dX9_unlike_68 ?_
          refine Z_iadd dX9_unlike_69 ?_
          refine R_iconst dX9_unlike_70 (v := zI (1)) rfl ?_
          refine Z_iadd dX9_unlike_71 ?_
          refine Zm_ld1 dX9_unlike_72 (by omega) ?_
          refine R_aload_n dX9_unlike_73 rfl rfl rfl ?_
          refine Zm_gf dX9_unlike_74 gf_X9_7 rfl ?_
          refine R_sipush dX9_unlike_77 (v := zI (175)) rfl ?_
          refine R_iconst dX9_unlike_80 (v := zI (2)) rfl ?_
          refine R_iload dX9_unlike_81 rfl ?_
          refine Z_imul dX9_unlike_83 ?_
          refine Z_iadd dX9_unlike_84 ?_
          refine R_iconst dX9_unlike_85 (v := zI (1)) rfl ?_
          refine Z_iadd dX9_unlike_86 ?_
          refine Zm_ld1 dX9_unlike_87 (by omega) ?_
          refine Z_icmp_eq dX9_unlike_88 (by first | exact hI.1 _ | assumption | exact hI1.1 _ | exact hI2.1 _ | exact ⟨by omega, by omega⟩) (by first | exact hI.1 _ | assumption | exact hI1.1 _ | exact hI2.1 _ | exact ⟨by omega, by omega⟩) (tgt := 95) (by decide) (fun c_88 => ?_) (fun c_88 => ?_)
          · skip
            refine R_iconst dX9_unlike_95 (v := zI (0)) rfl ?_
            exact jf_27 (by first | assumption | omega | grind | (simp [*]; done) | (simp_all; done))
          · skip
            refine R_iconst dX9_unlike_91 (v := zI (1)) rfl ?_
            refine R_goto dX9_unlike_92 (tgt := 96) (by decide) ?_
            exact jt_27 (by first | assumption | omega | grind | (simp [*]; done) | (simp_all; done))

theorem lp_unlike {Ω : Wd} {d r : Nat} {Q : Hp → Out → Prop} {b : Nat} {h0 : Hp} {σ : St}  (hI : MI σ) : ∀ (k n : Nat), n + k = (σ 174).toNat → At Ω M_X9_unlike d r Q 121 [some (.ref b), some (.int (zI (unlS σ (σ 174).toNat))), none, none, none] [] (mh b h0 (σ)) → At Ω M_X9_unlike d r Q 4 [some (.ref b), some (.int (zI (unlS σ n))), some (.int (zI (((n : Nat) : Int)))), none, none] [] (mh b h0 (σ)) := by
  intro k
  induction k with
  | zero =>
    intro n hn hX
    have hnN : n = (σ 174).toNat := by omega
    rw [hnN]
    have h174 := hI.2.2.2.1
    refine R_iload_n dX9_unlike_4 rfl rfl ?_
    refine R_aload_n dX9_unlike_5 rfl rfl rfl ?_
    refine Zm_gf dX9_unlike_6 gf_X9_7 rfl ?_
    refine R_sipush dX9_unlike_9 (v := zI (174)) rfl ?_
    refine Zm_ld1 dX9_unlike_12 (by omega) ?_
    refine Z_icmp_ge dX9_unlike_13 (by first | exact hI.1 _ | assumption | exact hI1.1 _ | exact hI2.1 _ | exact ⟨by omega, by omega⟩) (by first | exact hI.1 _ | assumption | exact hI1.1 _ | exact hI2.1 _ | exact ⟨by omega, by omega⟩) (tgt := 121) (by decide) (fun c_13 => ?_) (fun c_13 => absurd c_13 (by omega))
    exact At.dropS (L' := [some (.ref b), some (.int (zI (unlS σ (σ 174).toNat))), none, none, none]) ⟨rfl, rfl, trivial⟩ hX
  | succ k ih =>
    intro n hn hX
    have h174 := hI.2.2.2.1
    refine R_iload_n dX9_unlike_4 rfl rfl ?_
    refine R_aload_n dX9_unlike_5 rfl rfl rfl ?_
    refine Zm_gf dX9_unlike_6 gf_X9_7 rfl ?_
    refine R_sipush dX9_unlike_9 (v := zI (174)) rfl ?_
    refine Zm_ld1 dX9_unlike_12 (by omega) ?_
    refine Z_icmp_ge dX9_unlike_13 (by first | exact hI.1 _ | assumption | exact hI1.1 _ | exact hI2.1 _ | exact ⟨by omega, by omega⟩) (by first | exact hI.1 _ | assumption | exact hI1.1 _ | exact hI2.1 _ | exact ⟨by omega, by omega⟩) (tgt := 121) (by decide) (fun c_13 => absurd c_13 (by omega)) (fun c_13 => ?_)
    refine R_iconst dX9_unlike_16 (v := zI (b2i True)) (by rw [b2i_1 trivial]) ?_
    refine R_istore_n dX9_unlike_17 rfl (by decide) rfl rfl ?_
    refine R_iconst dX9_unlike_18 (v := zI (0)) rfl ?_
    refine R_istore dX9_unlike_19 (by decide) rfl rfl ?_
    refine At.dropS (L' := [some (.ref b), some (.int (zI ((unlS σ n)))), some (.int (zI (((n) : Int)))), some (.int (zI (b2i (newS σ ((n) : Int) 0)))), some (.int (zI (((0 : Nat) : Int))))]) ⟨rfl, rfl, rfl, rfl, rfl, trivial⟩ (lp_unlike2 (m := n) hI (by omega) _ 0 (Nat.zero_add _) ?_)
    refine R_iload_n dX9_unlike_103 rfl rfl ?_
    refine z_joinB (newS σ ((n : Nat) : Int) n) 113 ?_ (fun jt_104 jf_104 => ?_)
    · skip
      refine Z_iadd dX9_unlike_113 ?_
      refine R_istore_n dX9_unlike_114 rfl (by decide) rfl rfl ?_
      refine Z_iinc dX9_unlike_115 rfl (by decide) rfl rfl ?_
      refine R_goto dX9_unlike_118 (tgt := 4) (by decide) ?_
      exact At.dropS (L' := [some (.ref b), some (.int (zI (unlS σ (n + 1)))), some (.int (zI ((((n + 1) : Nat) : Int)))), none, none]) ⟨rfl, rfl, rfl, trivial⟩ (ih (n + 1) (by omega) hX)
    · skip
      refine R_iload_n dX9_unlike_104 rfl rfl ?_
      refine Z_if_eqB dX9_unlike_105 (tgt := 112) (by decide) (fun c_105 => ?_) (fun c_105 => ?_)
      · skip
        refine R_iconst dX9_unlike_112 (v := zI (0)) rfl ?_
        exact jf_104 (by first | assumption | omega | grind | (simp [*]; done) | (simp_all; done))
      · skip
        refine R_iconst dX9_unlike_108 (v := zI (1)) rfl ?_
        refine R_goto dX9_unlike_109 (tgt := 113) (by decide) ?_
        exact jt_104 (by first | assumption | omega | grind | (simp [*]; done) | (simp_all; done))

theorem sp_X9_unlike {Ω : Wd} {d r : Nat} {Q : Hp → Out → Prop} {b : Nat} {h0 : Hp} {σ : St} (hI : MI σ) (hQ : Q (mh b h0 (σ)) (.inl (some (.int (zI (unlF σ)))))) : Ok Ω M_X9_unlike d r [.ref b] (mh b h0 (σ)) Q := by
  refine Ok.of (by decide) rfl (Nat.le_of_ble_eq_true rfl) rfl ?_
  refine R_iconst dX9_unlike_0 (v := zI (0)) rfl ?_
  refine R_istore_n dX9_unlike_1 rfl (by decide) rfl rfl ?_
  refine R_iconst dX9_unlike_2 (v := zI (0)) rfl ?_
  refine R_istore_n dX9_unlike_3 rfl (by decide) rfl rfl ?_
  refine At.dropS (L' := [some (.ref b), some (.int (zI (unlS σ 0))), some (.int (zI (((0 : Nat) : Int)))), none, none]) ⟨rfl, rfl, rfl, trivial⟩ (lp_unlike hI _ 0 (Nat.zero_add _) ?_)
  refine R_iload_n dX9_unlike_121 rfl rfl ?_
  refine Z_retI dX9_unlike_122 (rf_i rfl) ?_
  first | exact hQ | exact mQi hQ rfl (by first | rfl | omega | exact b2i_1 (by omega) | exact b2i_0 (by omega) | (simp [*]; done))

def allS (σ : St) : Nat → Prop
  | 0 => 0 < σ 117
  | n + 1 => allS σ n ∧ σ (118 + 6 * (n : Int) + 4) = 2
abbrev allF (σ : St) : Prop := allS σ (σ 117).toNat
/-- why the game is over -/
noncomputable def overF (σ : St) : Int := pif (allF σ) 1 (if 2 < timF σ (firF σ) (secF σ) then 2 else if σ 167 ≤ σ 168 then 3 else 0)
theorem overF_bd (σ : St) : 0 ≤ overF σ ∧ overF σ ≤ 3 := by
  unfold overF
  by_cases h : allF σ
  · rw [pif_1 h]; decide
  · rw [pif_0 h]
    split
    · omega
    · split <;> omega

theorem lp_over {Ω : Wd} {d r : Nat} {Q : Hp → Out → Prop} {b : Nat} {h0 : Hp} {σ : St}  (hI : MI σ) : ∀ (k n : Nat), n + k = (σ 117).toNat → At Ω M_X9_over (d + 3) r Q 55 [some (.ref b), some (.int (zI (b2i (allS σ (σ 117).toNat)))), none] [] (mh b h0 (σ)) → At Ω M_X9_over (d + 3) r Q 18 [some (.ref b), some (.int (zI (b2i (allS σ n)))), some (.int (zI (((n : Nat) : Int))))] [] (mh b h0 (σ)) := by
  intro k
  induction k with
  | zero =>
    intro n hn hX
    have hnN : n = (σ 117).toNat := by omega
    rw [hnN]
    have h117 := hI.2.2.1
    refine R_iload_n dX9_over_18 rfl rfl ?_
    refine R_aload_n dX9_over_19 rfl rfl rfl ?_
    refine Zm_gf dX9_over_20 gf_X9_7 rfl ?_
    refine R_bipush dX9_over_23 (v := zI (117)) rfl ?_
    refine Zm_ld1 dX9_over_25 (by omega) ?_
    refine Z_icmp_ge dX9_over_26 (by first | exact hI.1 _ | assumption | exact hI1.1 _ | exact hI2.1 _ | exact ⟨by omega, by omega⟩) (by first | exact hI.1 _ | assumption | exact hI1.1 _ | exact hI2.1 _ | exact ⟨by omega, by omega⟩) (tgt := 55) (by decide) (fun c_26 => ?_) (fun c_26 => absurd c_26 (by omega))
    exact At.dropS (L' := [some (.ref b), some (.int (zI (b2i (allS σ (σ 117).toNat)))), none]) ⟨rfl, rfl, trivial⟩ hX
  | succ k ih =>
    intro n hn hX
    have h117 := hI.2.2.1
    refine R_iload_n dX9_over_18 rfl rfl ?_
    refine R_aload_n dX9_over_19 rfl rfl rfl ?_
    refine Zm_gf dX9_over_20 gf_X9_7 rfl ?_
    refine R_bipush dX9_over_23 (v := zI (117)) rfl ?_
    refine Zm_ld1 dX9_over_25 (by omega) ?_
    refine Z_icmp_ge dX9_over_26 (by first | exact hI.1 _ | assumption | exact hI1.1 _ | exact hI2.1 _ | exact ⟨by omega, by omega⟩) (by first | exact hI.1 _ | assumption | exact hI1.1 _ | exact hI2.1 _ | exact ⟨by omega, by omega⟩) (tgt := 55) (by decide) (fun c_26 => absurd c_26 (by omega)) (fun c_26 => ?_)
    refine z_joinB (allS σ n ∧ σ (118 + 6 * ((n : Nat) : Int) + 4) = 2) 48 ?_ (fun jt_29 jf_29 => ?_)
    · skip
      refine R_istore_n dX9_over_48 rfl (by decide) rfl rfl ?_
      refine Z_iinc dX9_over_49 rfl (by decide) rfl rfl ?_
      refine R_goto dX9_over_52 (tgt := 18) (by decide) ?_
      exact At.dropS (L' := [some (.ref b), some (.int (zI (b2i (allS σ (n + 1))))), some (.int (zI ((((n + 1) : Nat) : Int))))]) ⟨rfl, rfl, rfl, trivial⟩ (ih (n + 1) (by omega) hX)
    · skip
      refine R_iload_n dX9_over_29 rfl rfl ?_
      refine Z_if_eqB dX9_over_30 (tgt := 47) (by decide) (fun c_30 => ?_) (fun c_30 => ?_)
      · skip
        refine R_iconst dX9_over_47 (v := zI (0)) rfl ?_
        exact jf_29 (by first | assumption | omega | grind | (simp [*]; done) | (simp_all; done))
      · skip
        refine R_aload_n dX9_over_33 rfl rfl rfl ?_
        refine R_iload_n dX9_over_34 rfl rfl ?_
        refine R_iconst dX9_over_35 (v := zI (4)) rfl ?_
        refine R_cV2 0 dX9_over_36 rfl cv_X9_49 mh_get0 rfl rfl (Nat.le_of_ble_eq_true rfl) (Nat.zero_le _) (sp_X9_has (by first | assumption | exact hI.1 _ | exact hI1.1 _ | exact hI2.1 _ | omega | (refine ⟨?_, ?_⟩ <;> omega)) (kq.v ?_))
        refine R_iconst dX9_over_39 (v := zI (2)) rfl ?_
        refine Z_icmp_ne dX9_over_40 (by first | exact hI.1 _ | assumption | exact hI1.1 _ | exact hI2.1 _ | exact ⟨by omega, by omega⟩) (by first | exact hI.1 _ | assumption | exact hI1.1 _ | exact hI2.1 _ | exact ⟨by omega, by omega⟩) (tgt := 47) (by decide) (fun c_40 => ?_) (fun c_40 => ?_)
        · skip
          refine R_iconst dX9_over_47 (v := zI (0)) rfl ?_
          exact jf_29 (by first | assumption | omega | grind | (simp [*]; done) | (simp_all; done))
        · skip
          refine R_iconst dX9_over_43 (v := zI (1)) rfl ?_
          refine R_goto dX9_over_44 (tgt := 48) (by decide) ?_
          exact jt_29 (by first | assumption | omega | grind | (simp [*]; done) | (simp_all; done))

theorem sp_X9_over {Ω : Wd} {d r : Nat} {Q : Hp → Out → Prop} {b : Nat} {h0 : Hp} {σ : St} (hI : MI σ) (hQ : Q (mh b h0 (σ)) (.inl (some (.int (zI (overF σ)))))) : Ok Ω M_X9_over (d + 3) r [.ref b] (mh b h0 (σ)) Q := by
  refine Ok.of (by decide) rfl (Nat.le_of_ble_eq_true rfl) rfl ?_
  have h117 := hI.2.2.1
  have hb1 := firF_bd hI
  have hb2 := secF_bd hI
  have h174 := hI.2.2.2.1
  have hb3 : 0 ≤ timF σ (firF σ) (secF σ) ∧ timF σ (firF σ) (secF σ) ≤ 61 := timF_bd hI _ _
  refine z_joinB (0 < σ 117) 15 ?_ (fun jt_0 jf_0 => ?_)
  · skip
    refine R_istore_n dX9_over_15 rfl (by decide) rfl rfl ?_
    refine R_iconst dX9_over_16 (v := zI (0)) rfl ?_
    refine R_istore_n dX9_over_17 rfl (by decide) rfl rfl ?_
    refine At.dropS (L' := [some (.ref b), some (.int (zI (b2i (allS σ 0)))), some (.int (zI (((0 : Nat) : Int))))]) ⟨rfl, rfl, rfl, trivial⟩ (lp_over hI _ 0 (Nat.zero_add _) ?_)
    refine R_iload_n dX9_over_55 rfl rfl ?_
    refine Z_if_eqB dX9_over_56 (tgt := 63) (by decide) (fun c_56 => ?_) (fun c_56 => ?_)
    · skip
      refine R_aload_n dX9_over_63 rfl rfl rfl ?_
      refine R_aload_n dX9_over_64 rfl rfl rfl ?_
      refine R_cV0 0 dX9_over_65 rfl cv_X9_64 mh_get0 rfl rfl (Nat.le_of_ble_eq_true rfl) (Nat.zero_le _) (sp_X9_first (by first | assumption | exact hI.1 _ | exact hI1.1 _ | exact hI2.1 _ | omega | (refine ⟨?_, ?_⟩ <;> omega)) (kq.v ?_))
      refine R_aload_n dX9_over_68 rfl rfl rfl ?_
      refine R_cV0 0 dX9_over_69 rfl cv_X9_68 mh_get0 rfl rfl (Nat.le_of_ble_eq_true rfl) (Nat.zero_le _) (sp_X9_second (by first | assumption | exact hI.1 _ | exact hI1.1 _ | exact hI2.1 _ | omega | (refine ⟨?_, ?_⟩ <;> omega)) (kq.v ?_))
      refine R_cV2 0 dX9_over_72 rfl cv_X9_71 mh_get0 rfl rfl (Nat.le_of_ble_eq_true rfl) (Nat.zero_le _) (sp_X9_timesOf (by first | assumption | exact hI.1 _ | exact hI1.1 _ | exact hI2.1 _ | omega | (refine ⟨?_, ?_⟩ <;> omega)) (by first | assumption | exact hI.1 _ | exact hI1.1 _ | exact hI2.1 _ | omega | (refine ⟨?_, ?_⟩ <;> omega)) (by first | assumption | exact hI.1 _ | exact hI1.1 _ | exact hI2.1 _ | omega | (refine ⟨?_, ?_⟩ <;> omega)) (kq.v ?_))
      refine R_iconst dX9_over_75 (v := zI (2)) rfl ?_
      refine Z_icmp_le dX9_over_76 (by first | exact hI.1 _ | assumption | exact hI1.1 _ | exact hI2.1 _ | exact ⟨by omega, by omega⟩) (by first | exact hI.1 _ | assumption | exact hI1.1 _ | exact hI2.1 _ | exact ⟨by omega, by omega⟩) (tgt := 83) (by decide) (fun c_76 => ?_) (fun c_76 => ?_)
      · skip
        refine R_aload_n dX9_over_83 rfl rfl rfl ?_
        refine Zm_gf dX9_over_84 gf_X9_7 rfl ?_
        refine R_sipush dX9_over_87 (v := zI (168)) rfl ?_
        refine Zm_ld1 dX9_over_90 (by omega) ?_
        refine R_aload_n dX9_over_91 rfl rfl rfl ?_
        refine Zm_gf dX9_over_92 gf_X9_7 rfl ?_
        refine R_sipush dX9_over_95 (v := zI (167)) rfl ?_
        refine Zm_ld1 dX9_over_98 (by omega) ?_
        refine Z_icmp_lt dX9_over_99 (by first | exact hI.1 _ | assumption | exact hI1.1 _ | exact hI2.1 _ | exact ⟨by omega, by omega⟩) (by first | exact hI.1 _ | assumption | exact hI1.1 _ | exact hI2.1 _ | exact ⟨by omega, by omega⟩) (tgt := 106) (by decide) (fun c_99 => ?_) (fun c_99 => ?_)
        · skip
          refine R_iconst dX9_over_106 (v := zI (0)) rfl ?_
          refine Z_retI dX9_over_107 (rf_i rfl) ?_
          exact mQi hQ rfl (by unfold overF; first | (rw [pif_1 (by assumption)]; done) | (rw [pif_0 (by assumption), if_pos (by omega)]; done) | (rw [pif_0 (by assumption), if_neg (by omega), if_pos (by omega)]; done) | (rw [pif_0 (by assumption), if_neg (by omega), if_neg (by omega)]; done))
        · skip
          refine R_iconst dX9_over_102 (v := zI (3)) rfl ?_
          refine R_goto dX9_over_103 (tgt := 107) (by decide) ?_
          refine Z_retI dX9_over_107 (rf_i rfl) ?_
          exact mQi hQ rfl (by unfold overF; first | (rw [pif_1 (by assumption)]; done) | (rw [pif_0 (by assumption), if_pos (by omega)]; done) | (rw [pif_0 (by assumption), if_neg (by omega), if_pos (by omega)]; done) | (rw [pif_0 (by assumption), if_neg (by omega), if_neg (by omega)]; done))
      · skip
        refine R_iconst dX9_over_79 (v := zI (2)) rfl ?_
        refine R_goto dX9_over_80 (tgt := 107) (by decide) ?_
        refine Z_retI dX9_over_107 (rf_i rfl) ?_
        exact mQi hQ rfl (by unfold overF; first | (rw [pif_1 (by assumption)]; done) | (rw [pif_0 (by assumption), if_pos (by omega)]; done) | (rw [pif_0 (by assumption), if_neg (by omega), if_pos (by omega)]; done) | (rw [pif_0 (by assumption), if_neg (by omega), if_neg (by omega)]; done))
    · skip
      refine R_iconst dX9_over_59 (v := zI (1)) rfl ?_
      refine R_goto dX9_over_60 (tgt := 107) (by decide) ?_
      refine Z_retI dX9_over_107 (rf_i rfl) ?_
      exact mQi hQ rfl (by unfold overF; first | (rw [pif_1 (by assumption)]; done) | (rw [pif_0 (by assumption), if_pos (by omega)]; done) | (rw [pif_0 (by assumption), if_neg (by omega), if_pos (by omega)]; done) | (rw [pif_0 (by assumption), if_neg (by omega), if_neg (by omega)]; done))
  · skip
    refine R_aload_n dX9_over_0 rfl rfl rfl ?_
    refine Zm_gf dX9_over_1 gf_X9_7 rfl ?_
    refine R_bipush dX9_over_4 (v := zI (117)) rfl ?_
    refine Zm_ld1 dX9_over_6 (by omega) ?_
    refine Z_if_le dX9_over_7 (by first | exact hI.1 _ | assumption | exact hI1.1 _ | exact hI2.1 _ | exact ⟨by omega, by omega⟩) (tgt := 14) (by decide) (fun c_7 => ?_) (fun c_7 => ?_)
    · skip
      refine R_iconst dX9_over_14 (v := zI (0)) rfl ?_
      exact jf_0 (by first | assumption | omega | grind | (simp [*]; done) | (simp_all; done))
    · skip
      refine R_iconst dX9_over_10 (v := zI (1)) rfl ?_
      refine R_goto dX9_over_11 (tgt := 15) (by decide) ?_
      exact jt_0 (by first | assumption | omega | grind | (simp [*]; done) | (simp_all; done))

noncomputable def noOrdF (σ : St) (c k : Int) : Int := if overF σ ≠ 0 then 1 else if σ (1 + 4 * k) ≠ σ (97 + 5 * c + 0) then 2 else if σ (1 + 4 * k + 3) ≠ 1 then 3 else if σ (1 + 4 * k + 2) = 1 ∧ σ (97 + 5 * c + 1) = 1 then 4 else 0

theorem sp_X9_noOrder {Ω : Wd} {d r : Nat} {Q : Hp → Out → Prop} {b : Nat} {h0 : Hp} {σ : St} {c k : Int} (hI : MI σ) (hc : 0 ≤ c ∧ c < 4) (hk : 0 ≤ k ∧ k < σ 0) (hQ : Q (mh b h0 (σ)) (.inl (some (.int (zI (noOrdF σ c k)))))) : Ok Ω M_X9_noOrder (d + 4) r [.ref b, .int (zI c), .int (zI k)] (mh b h0 (σ)) Q := by
  refine Ok.of (by decide) rfl (Nat.le_of_ble_eq_true rfl) rfl ?_
  have hb := overF_bd σ
  have h0 := hI.2.1
  refine R_aload_n dX9_noOrder_0 rfl rfl rfl ?_
  refine R_cV0 0 dX9_noOrder_1 rfl cv_X9_74 mh_get0 rfl rfl (Nat.le_of_ble_eq_true rfl) (Nat.zero_le _) (sp_X9_over (by first | assumption | exact hI.1 _ | exact hI1.1 _ | exact hI2.1 _ | omega | (refine ⟨?_, ?_⟩ <;> omega)) (kq.v ?_))
  refine Z_if_eq dX9_noOrder_4 (by first | exact hI.1 _ | assumption | exact hI1.1 _ | exact hI2.1 _ | exact ⟨by omega, by omega⟩) (tgt := 9) (by decide) (fun c_4 => ?_) (fun c_4 => ?_)
  · skip
    refine R_aload_n dX9_noOrder_9 rfl rfl rfl ?_
    refine R_iload_n dX9_noOrder_10 rfl rfl ?_
    refine R_cV1 0 dX9_noOrder_11 rfl cv_X9_77 mh_get0 rfl rfl (Nat.le_of_ble_eq_true rfl) (Nat.zero_le _) (sp_X9_from (by first | assumption | exact hI.1 _ | exact hI1.1 _ | exact hI2.1 _ | omega | (refine ⟨?_, ?_⟩ <;> omega)) (kq.v ?_))
    refine R_aload_n dX9_noOrder_14 rfl rfl rfl ?_
    refine R_iload_n dX9_noOrder_15 rfl rfl ?_
    refine R_iconst dX9_noOrder_16 (v := zI (0)) rfl ?_
    refine R_cV2 0 dX9_noOrder_17 rfl cv_X9_53 mh_get0 rfl rfl (Nat.le_of_ble_eq_true rfl) (Nat.zero_le _) (sp_X9_of (by first | assumption | exact hI.1 _ | exact hI1.1 _ | exact hI2.1 _ | omega | (refine ⟨?_, ?_⟩ <;> omega)) (kq.v ?_))
    refine Z_icmp_eq dX9_noOrder_20 (by first | exact hI.1 _ | assumption | exact hI1.1 _ | exact hI2.1 _ | exact ⟨by omega, by omega⟩) (by first | exact hI.1 _ | assumption | exact hI1.1 _ | exact hI2.1 _ | exact ⟨by omega, by omega⟩) (tgt := 25) (by decide) (fun c_20 => ?_) (fun c_20 => ?_)
    · skip
      refine R_aload_n dX9_noOrder_25 rfl rfl rfl ?_
      refine R_iload_n dX9_noOrder_26 rfl rfl ?_
      refine R_cV1 0 dX9_noOrder_27 rfl cv_X9_80 mh_get0 rfl rfl (Nat.le_of_ble_eq_true rfl) (Nat.zero_le _) (sp_X9_isFree (by first | assumption | exact hI.1 _ | exact hI1.1 _ | exact hI2.1 _ | omega | (refine ⟨?_, ?_⟩ <;> omega)) (by first | assumption | exact hI.1 _ | exact hI1.1 _ | exact hI2.1 _ | omega | (refine ⟨?_, ?_⟩ <;> omega)) (kq.v ?_))
      refine Z_if_neB dX9_noOrder_30 (tgt := 37) (by decide) (fun c_30 => ?_) (fun c_30 => ?_)
      · skip
        refine R_aload_n dX9_noOrder_37 rfl rfl rfl ?_
        refine R_iload_n dX9_noOrder_38 rfl rfl ?_
        refine R_cV1 0 dX9_noOrder_39 rfl cv_X9_84 mh_get0 rfl rfl (Nat.le_of_ble_eq_true rfl) (Nat.zero_le _) (sp_X9_isNarrow (by first | assumption | exact hI.1 _ | exact hI1.1 _ | exact hI2.1 _ | omega | (refine ⟨?_, ?_⟩ <;> omega)) (by first | assumption | exact hI.1 _ | exact hI1.1 _ | exact hI2.1 _ | omega | (refine ⟨?_, ?_⟩ <;> omega)) (kq.v ?_))
        refine Z_if_eqB dX9_noOrder_42 (tgt := 59) (by decide) (fun c_42 => ?_) (fun c_42 => ?_)
        · skip
          refine R_iconst dX9_noOrder_59 (v := zI (0)) rfl ?_
          refine Z_retI dX9_noOrder_60 (rf_i rfl) ?_
          exact mQi hQ rfl (by unfold noOrdF; (repeat' split) <;> omega)
        · skip
          refine R_aload_n dX9_noOrder_45 rfl rfl rfl ?_
          refine R_iload_n dX9_noOrder_46 rfl rfl ?_
          refine R_iconst dX9_noOrder_47 (v := zI (1)) rfl ?_
          refine R_cV2 0 dX9_noOrder_48 rfl cv_X9_53 mh_get0 rfl rfl (Nat.le_of_ble_eq_true rfl) (Nat.zero_le _) (sp_X9_of (by first | assumption | exact hI.1 _ | exact hI1.1 _ | exact hI2.1 _ | omega | (refine ⟨?_, ?_⟩ <;> omega)) (kq.v ?_))
          refine R_iconst dX9_noOrder_51 (v := zI (1)) rfl ?_
          refine Z_icmp_ne dX9_noOrder_52 (by first | exact hI.1 _ | assumption | exact hI1.1 _ | exact hI2.1 _ | exact ⟨by omega, by omega⟩) (by first | exact hI.1 _ | assumption | exact hI1.1 _ | exact hI2.1 _ | exact ⟨by omega, by omega⟩) (tgt := 59) (by decide) (fun c_52 => ?_) (fun c_52 => ?_)
          · skip
            refine R_iconst dX9_noOrder_59 (v := zI (0)) rfl ?_
            refine Z_retI dX9_noOrder_60 (rf_i rfl) ?_
            exact mQi hQ rfl (by unfold noOrdF; (repeat' split) <;> omega)
          · skip
            refine R_iconst dX9_noOrder_55 (v := zI (4)) rfl ?_
            refine R_goto dX9_noOrder_56 (tgt := 60) (by decide) ?_
            refine Z_retI dX9_noOrder_60 (rf_i rfl) ?_
            exact mQi hQ rfl (by unfold noOrdF; (repeat' split) <;> omega)
      · skip
        refine R_iconst dX9_noOrder_33 (v := zI (3)) rfl ?_
        refine R_goto dX9_noOrder_34 (tgt := 60) (by decide) ?_
        refine Z_retI dX9_noOrder_60 (rf_i rfl) ?_
        exact mQi hQ rfl (by unfold noOrdF; (repeat' split) <;> omega)
    · skip
      refine R_iconst dX9_noOrder_23 (v := zI (2)) rfl ?_
      refine Z_retI dX9_noOrder_24 (rf_i rfl) ?_
      exact mQi hQ rfl (by unfold noOrdF; (repeat' split) <;> omega)
  · skip
    refine R_iconst dX9_noOrder_7 (v := zI (1)) rfl ?_
    refine Z_retI dX9_noOrder_8 (rf_i rfl) ?_
    exact mQi hQ rfl (by unfold noOrdF; (repeat' split) <;> omega)

