/-! the model: reaching -/
set_option maxRecDepth 100000
/-- a street that the courier's vehicle may take -/
abbrev canK (σ : St) (q k : Int) : Prop := σ (1 + 4 * k + 3) = 1 ∧ ¬ (σ (1 + 4 * k + 2) = 1 ∧ σ (97 + 5 * q + 1) = 1)
def sprI (σ : St) (j : Int) : Nat → St
  | 0 => σ
  | n + 1 => us (sprI σ j n) (730 + (n : Int)) (if (n : Int) = j then 0 else -1)
/-- one step's look at one street -/
def spr1 (τ : St) (q k s : Int) : St := if canK τ q k ∧ τ (730 + τ (1 + 4 * k)) = s ∧ τ (730 + τ (1 + 4 * k + 1)) = -1 then us τ (730 + τ (1 + 4 * k + 1)) (s + 1) else τ
def sprK (σ : St) (q s : Int) : Nat → St
  | 0 => σ
  | n + 1 => spr1 (sprK σ q s n) q n s
def sprS (σ : St) (q : Int) : Nat → St
  | 0 => σ
  | n + 1 => sprK (sprS σ q n) q n (sprS σ q n 0).toNat
/-- how far the junctions are -/
noncomputable def sprF (σ : St) (q j : Int) : St := hide (sprS (sprI σ j 10) q 10)
theorem sprF_def (σ : St) (q j : Int) : sprF σ q j = sprS (sprI σ j 10) q 10 := hide_eq _
theorem sprI_out {σ : St} {j k : Int} : ∀ n : Nat, n ≤ 10 → k < 730 ∨ 740 ≤ k → sprI σ j n k = σ k
  | 0, _, _ => rfl
  | n + 1, hn, h => by
    unfold sprI
    rw [us_ne (by omega)]
    exact sprI_out n (by omega) h
theorem sprI_at {σ : St} {j : Int} : ∀ (n : Nat) (k : Int), 0 ≤ k ∧ k < n → sprI σ j n (730 + k) = if k = j then 0 else -1
  | 0, k, h => by omega
  | n + 1, k, h => by
    unfold sprI
    by_cases e : k = n
    · subst e
      rw [us_eq]
    · rw [us_ne (by omega)]
      exact sprI_at n k (by omega)
/-- far and its neighbours: what the walk of spreads keeps -/
abbrev fR (σ : St) : Prop := ∀ j : Int, 0 ≤ j ∧ j < 10 → -1 ≤ σ (730 + j) ∧ σ (730 + j) ≤ 10
theorem spr1_inv {τ : St} (hI : MI τ) (hf : fR τ) {q k s : Int} (hk : 0 ≤ k ∧ k < τ 0) (hs : 0 ≤ s ∧ s < 10) : (MI (spr1 τ q k s) ∧ fR (spr1 τ q k s)) ∧ ∀ x : Int, x < 730 ∨ 740 ≤ x → spr1 τ q k s x = τ x := by
  have h8 := hI.2.2.2.2.2.2.2.1 k hk
  unfold spr1
  split
  · refine ⟨⟨MI_free hI (by omega) ⟨by omega, by omega⟩, fun j hj => ?_⟩, fun x hx => us_ne (by omega)⟩
    have := hf j hj
    exact us_P (P := fun z => -1 ≤ z ∧ z ≤ 10) (fun _ => by omega) (by omega)
  · exact ⟨⟨hI, hf⟩, fun _ _ => rfl⟩
theorem sprK_inv {σ : St} (hI : MI σ) (hf : fR σ) {q s : Int} (hs : 0 ≤ s ∧ s < 10) : ∀ n : Nat, (n : Int) ≤ σ 0 → (MI (sprK σ q s n) ∧ fR (sprK σ q s n)) ∧ ∀ x : Int, x < 730 ∨ 740 ≤ x → sprK σ q s n x = σ x
  | 0, _ => ⟨⟨hI, hf⟩, fun _ _ => rfl⟩
  | n + 1, hn => by
    obtain ⟨⟨a1, a2⟩, a3⟩ := sprK_inv hI hf (q := q) hs n (by omega)
    unfold sprK
    obtain ⟨b1, b2⟩ := spr1_inv a1 a2 (q := q) (k := n) (s := s) (by rw [a3 0 (by omega)]; omega) hs
    exact ⟨b1, fun x hx => by rw [b2 x hx, a3 x hx]⟩
theorem sprS_inv {σ : St} (hI : MI σ) (hf : fR σ) {q : Int} : ∀ n : Nat, n ≤ 10 → (MI (sprS σ q n) ∧ fR (sprS σ q n)) ∧ ∀ x : Int, x < 730 ∨ 740 ≤ x → sprS σ q n x = σ x
  | 0, _ => ⟨⟨hI, hf⟩, fun _ _ => rfl⟩
  | n + 1, hn => by
    obtain ⟨⟨a1, a2⟩, a3⟩ := sprS_inv hI hf (q := q) n (by omega)
    have h0 := a1.2.1
    unfold sprS
    obtain ⟨b1, b2⟩ := sprK_inv a1 a2 (q := q) (s := n) (by omega) (sprS σ q n 0).toNat (by omega)
    exact ⟨b1, fun x hx => by rw [b2 x hx, a3 x hx]⟩
theorem sprI_MI {σ : St} (hI : MI σ) (j : Int) : ∀ n : Nat, n ≤ 10 → MI (sprI σ j n)
  | 0, _ => hI
  | n + 1, hn => by
    unfold sprI
    exact MI_free (sprI_MI hI j n (by omega)) (by omega) (by split <;> decide)
theorem sprF_inv {σ : St} (hI : MI σ) (q j : Int) : (MI (sprF σ q j) ∧ fR (sprF σ q j)) ∧ ∀ x : Int, x < 730 ∨ 740 ≤ x → sprF σ q j x = σ x := by
  have hf : fR (sprI σ j 10) := fun k hk => by
    rw [sprI_at 10 k (by omega)]
    split <;> omega
  obtain ⟨a1, a2⟩ := sprS_inv (sprI_MI hI j 10 (by omega)) hf (q := q) 10 (by omega)
  rw [sprF_def]
  exact ⟨a1, fun x hx => by rw [a2 x hx, sprI_out 10 (by omega) hx]⟩

theorem lp_spr0 {Ω : Wd} {d r : Nat} {Q : Hp → Out → Prop} {b : Nat} {h0 : Hp} {σ : St} {q j : Int} (hj : 0 ≤ j ∧ j < 10) : ∀ (k n : Nat), n + k = 10 → At Ω M_X9_spreads (d + 1) r Q 30 [some (.ref b), some (.int (zI (q))), some (.int (zI (j))), none, none, none] [] (mh b h0 (sprI σ j 10)) → At Ω M_X9_spreads (d + 1) r Q 2 [some (.ref b), some (.int (zI (q))), some (.int (zI (j))), some (.int (zI (((n : Nat) : Int)))), none, none] [] (mh b h0 (sprI σ j n)) := by
  intro k
  induction k with
  | zero =>
    intro n hn hX
    have hnN : n = 10 := by omega
    rw [hnN]
    refine R_iload_n dX9_spreads_2 rfl rfl ?_
    refine R_bipush dX9_spreads_3 (v := zI (10)) rfl ?_
    refine Z_icmp_ge dX9_spreads_5 (by first | exact hI.1 _ | assumption | exact hI1.1 _ | exact hI2.1 _ | exact ⟨by omega, by omega⟩) (by first | exact hI.1 _ | assumption | exact hI1.1 _ | exact hI2.1 _ | exact ⟨by omega, by omega⟩) (tgt := 30) (by decide) (fun c_5 => ?_) (fun c_5 => absurd c_5 (by omega))
    exact At.dropS (L' := [some (.ref b), some (.int (zI (q))), some (.int (zI (j))), none, none, none]) ⟨rfl, rfl, rfl, trivial⟩ hX
  | succ k ih =>
    intro n hn hX
    refine R_iload_n dX9_spreads_2 rfl rfl ?_
    refine R_bipush dX9_spreads_3 (v := zI (10)) rfl ?_
    refine Z_icmp_ge dX9_spreads_5 (by first | exact hI.1 _ | assumption | exact hI1.1 _ | exact hI2.1 _ | exact ⟨by omega, by omega⟩) (by first | exact hI.1 _ | assumption | exact hI1.1 _ | exact hI2.1 _ | exact ⟨by omega, by omega⟩) (tgt := 30) (by decide) (fun c_5 => absurd c_5 (by omega)) (fun c_5 => ?_)
    refine R_aload_n dX9_spreads_8 rfl rfl rfl ?_
    refine Zm_gf dX9_spreads_9 gf_X9_28 rfl ?_
    refine R_iload_n dX9_spreads_12 rfl rfl ?_
    refine z_joinI (if ((n : Nat) : Int) = j then 0 else -1) 23 ?_ (fun jj_13 => ?_)
    · skip
      refine Zm_st7 dX9_spreads_23 (by omega) ?_
      refine Z_iinc dX9_spreads_24 rfl (by decide) rfl rfl ?_
      refine R_goto dX9_spreads_27 (tgt := 2) (by decide) ?_
      exact At.dropS (L' := [some (.ref b), some (.int (zI (q))), some (.int (zI (j))), some (.int (zI ((((n + 1) : Nat) : Int)))), none, none]) ⟨rfl, rfl, rfl, rfl, trivial⟩ (ih (n + 1) (by omega) hX)
    · skip
      refine R_iload_n dX9_spreads_13 rfl rfl ?_
      refine R_iload_n dX9_spreads_14 rfl rfl ?_
      refine Z_icmp_ne dX9_spreads_15 (by first | exact hI.1 _ | assumption | exact hI1.1 _ | exact hI2.1 _ | exact ⟨by omega, by omega⟩) (by first | exact hI.1 _ | assumption | exact hI1.1 _ | exact hI2.1 _ | exact ⟨by omega, by omega⟩) (tgt := 22) (by decide) (fun c_15 => ?_) (fun c_15 => ?_)
      · skip
        refine R_iconst dX9_spreads_22 (v := zI (-1)) rfl ?_
        exact jj_13 _ (by first | rfl | (simp [*]; done) | omega | grind)
      · skip
        refine R_iconst dX9_spreads_18 (v := zI (0)) rfl ?_
        refine R_goto dX9_spreads_19 (tgt := 23) (by decide) ?_
        exact jj_13 _ (by first | rfl | (simp [*]; done) | omega | grind)

theorem lp_spr2 {Ω : Wd} {d r : Nat} {Q : Hp → Out → Prop} {b : Nat} {h0 : Hp} {σ : St} {q j : Int} {m : Nat} (hI : MI σ) (hf : fR σ) (hq : 0 ≤ q ∧ q < 4) (hm : m < 10) : ∀ (k n : Nat), n + k = (σ 0).toNat → At Ω M_X9_spreads (d + 1) r Q 142 [some (.ref b), some (.int (zI (q))), some (.int (zI (j))), some (.int (zI ((m : Int)))), none, none] [] (mh b h0 (sprK σ q (m : Int) (σ 0).toNat)) → At Ω M_X9_spreads (d + 1) r Q 41 [some (.ref b), some (.int (zI (q))), some (.int (zI (j))), some (.int (zI ((m : Int)))), some (.int (zI (((n : Nat) : Int)))), none] [] (mh b h0 (sprK σ q (m : Int) n)) := by
  intro k
  induction k with
  | zero =>
    intro n hn hX
    have hnN : n = (σ 0).toNat := by omega
    rw [hnN]
    have h0 := hI.2.1
    obtain ⟨⟨hI1, hf1⟩, e1⟩ := sprK_inv hI hf (q := q) (s := (m : Int)) (by omega) (σ 0).toNat (by omega)
    have e0 := e1 0 (by omega)
    refine R_iload dX9_spreads_41 rfl ?_
    refine R_aload_n dX9_spreads_43 rfl rfl rfl ?_
    refine Zm_gf dX9_spreads_44 gf_X9_7 rfl ?_
    refine R_iconst dX9_spreads_47 (v := zI (0)) rfl ?_
    refine Zm_ld1 dX9_spreads_48 (by omega) ?_
    refine Z_icmp_ge dX9_spreads_49 (by first | exact hI.1 _ | assumption | exact hI1.1 _ | exact hI2.1 _ | exact ⟨by omega, by omega⟩) (by first | exact hI.1 _ | assumption | exact hI1.1 _ | exact hI2.1 _ | exact ⟨by omega, by omega⟩) (tgt := 142) (by decide) (fun c_49 => ?_) (fun c_49 => absurd c_49 (by omega))
    exact At.dropS (L' := [some (.ref b), some (.int (zI (q))), some (.int (zI (j))), some (.int (zI ((m : Int)))), none, none]) ⟨rfl, rfl, rfl, rfl, trivial⟩ hX
  | succ k ih =>
    intro n hn hX
    have h0 := hI.2.1
    obtain ⟨⟨hI1, hf1⟩, e1⟩ := sprK_inv hI hf (q := q) (s := (m : Int)) (by omega) n (by omega)
    have e0 := e1 0 (by omega)
    refine R_iload dX9_spreads_41 rfl ?_
    refine R_aload_n dX9_spreads_43 rfl rfl rfl ?_
    refine Zm_gf dX9_spreads_44 gf_X9_7 rfl ?_
    refine R_iconst dX9_spreads_47 (v := zI (0)) rfl ?_
    refine Zm_ld1 dX9_spreads_48 (by omega) ?_
    refine Z_icmp_ge dX9_spreads_49 (by first | exact hI.1 _ | assumption | exact hI1.1 _ | exact hI2.1 _ | exact ⟨by omega, by omega⟩) (by first | exact hI.1 _ | assumption | exact hI1.1 _ | exact hI2.1 _ | exact ⟨by omega, by omega⟩) (tgt := 142) (by decide) (fun c_49 => absurd c_49 (by omega)) (fun c_49 => ?_)
    have h8 := hI1.2.2.2.2.2.2.2.1 (n : Int) (by omega)
    have hf2 := hf1 (sprK σ q (m : Int) n (1 + 4 * (n : Int))) (by omega)
    have hf3 := hf1 (sprK σ q (m : Int) n (1 + 4 * (n : Int) + 1)) (by omega)
    refine z_joinB (canK (sprK σ q (m : Int) n) q ((n : Nat) : Int)) 85 ?_ (fun jt_52 jf_52 => ?_)
    · skip
      refine R_istore dX9_spreads_85 (by decide) rfl rfl ?_
      refine z_joinS [some (.ref b), some (.int (zI (q))), some (.int (zI (j))), some (.int (zI ((m : Int)))), some (.int (zI (((n : Nat) : Int)))), none] (spr1 (sprK σ q (m : Int) n) q ((n : Nat) : Int) (m : Int)) 136 ?_ (fun js_87 => ?_)
      · skip
        refine Z_iinc dX9_spreads_136 rfl (by decide) rfl rfl ?_
        refine R_goto dX9_spreads_139 (tgt := 41) (by decide) ?_
        exact At.dropS (L' := [some (.ref b), some (.int (zI (q))), some (.int (zI (j))), some (.int (zI ((m : Int)))), some (.int (zI ((((n + 1) : Nat) : Int)))), none]) ⟨rfl, rfl, rfl, rfl, rfl, trivial⟩ (ih (n + 1) (by omega) hX)
      · skip
        refine R_iload dX9_spreads_87 rfl ?_
        refine Z_if_eqB dX9_spreads_89 (tgt := 136) (by decide) (fun c_89 => ?_) (fun c_89 => ?_)
        · skip
          exact js_87 _ _ (by unfold spr1; first | (rw [if_pos ⟨‹_›, ‹_›, ‹_›⟩]; done) | (rw [if_neg (by intro z; first | exact absurd z.1 ‹_› | exact absurd z.2.1 ‹_› | exact absurd z.2.2 ‹_›)]; done)) ⟨rfl, rfl, rfl, rfl, rfl, trivial⟩
        · skip
          refine R_aload_n dX9_spreads_92 rfl rfl rfl ?_
          refine Zm_gf dX9_spreads_93 gf_X9_28 rfl ?_
          refine R_aload_n dX9_spreads_96 rfl rfl rfl ?_
          refine R_iload dX9_spreads_97 rfl ?_
          refine R_cV1 0 dX9_spreads_99 rfl cv_X9_77 mh_get0 rfl rfl (Nat.le_of_ble_eq_true rfl) (Nat.zero_le _) (sp_X9_from (by first | assumption | exact hI.1 _ | exact hI1.1 _ | exact hI2.1 _ | omega | (refine ⟨?_, ?_⟩ <;> omega)) (kq.v ?_))
          refine Zm_ld7 dX9_spreads_102 (by omega) ?_
          refine R_iload_n dX9_spreads_103 rfl rfl ?_
          refine Z_icmp_ne dX9_spreads_104 (by first | exact hI.1 _ | assumption | exact hI1.1 _ | exact hI2.1 _ | exact ⟨by omega, by omega⟩) (by first | exact hI.1 _ | assumption | exact hI1.1 _ | exact hI2.1 _ | exact ⟨by omega, by omega⟩) (tgt := 136) (by decide) (fun c_104 => ?_) (fun c_104 => ?_)
          · skip
            exact js_87 _ _ (by unfold spr1; first | (rw [if_pos ⟨‹_›, ‹_›, ‹_›⟩]; done) | (rw [if_neg (by intro z; first | exact absurd z.1 ‹_› | exact absurd z.2.1 ‹_› | exact absurd z.2.2 ‹_›)]; done)) ⟨rfl, rfl, rfl, rfl, rfl, trivial⟩
          · skip
            refine R_aload_n dX9_spreads_107 rfl rfl rfl ?_
            refine Zm_gf dX9_spreads_108 gf_X9_28 rfl ?_
            refine R_aload_n dX9_spreads_111 rfl rfl rfl ?_
            refine R_iload dX9_spreads_112 rfl ?_
            refine R_cV1 0 dX9_spreads_114 rfl cv_X9_91 mh_get0 rfl rfl (Nat.le_of_ble_eq_true rfl) (Nat.zero_le _) (sp_X9_to (by first | assumption | exact hI.1 _ | exact hI1.1 _ | exact hI2.1 _ | omega | (refine ⟨?_, ?_⟩ <;> omega)) (kq.v ?_))
            refine Zm_ld7 dX9_spreads_117 (by omega) ?_
            refine R_iconst dX9_spreads_118 (v := zI (-1)) rfl ?_
            refine Z_icmp_ne dX9_spreads_119 (by first | exact hI.1 _ | assumption | exact hI1.1 _ | exact hI2.1 _ | exact ⟨by omega, by omega⟩) (by first | exact hI.1 _ | assumption | exact hI1.1 _ | exact hI2.1 _ | exact ⟨by omega, by omega⟩) (tgt := 136) (by decide) (fun c_119 => ?_) (fun c_119 => ?_)
            · skip
              exact js_87 _ _ (by unfold spr1; first | (rw [if_pos ⟨‹_›, ‹_›, ‹_›⟩]; done) | (rw [if_neg (by intro z; first | exact absurd z.1 ‹_› | exact absurd z.2.1 ‹_› | exact absurd z.2.2 ‹_›)]; done)) ⟨rfl, rfl, rfl, rfl, rfl, trivial⟩
            · skip
              refine R_aload_n dX9_spreads_122 rfl rfl rfl ?_
              refine Zm_gf dX9_spreads_123 gf_X9_28 rfl ?_
              refine R_aload_n dX9_spreads_126 rfl rfl rfl ?_
              refine R_iload dX9_spreads_127 rfl ?_
              refine R_cV1 0 dX9_spreads_129 rfl cv_X9_91 mh_get0 rfl rfl (Nat.le_of_ble_eq_true rfl) (Nat.zero_le _) (sp_X9_to (by first | assumption | exact hI.1 _ | exact hI1.1 _ | exact hI2.1 _ | omega | (refine ⟨?_, ?_⟩ <;> omega)) (kq.v ?_))
              refine R_iload_n dX9_spreads_132 rfl rfl ?_
              refine R_iconst dX9_spreads_133 (v := zI (1)) rfl ?_
              refine Z_iadd dX9_spreads_134 ?_
              refine Zm_st7 dX9_spreads_135 (by omega) ?_
              exact js_87 _ _ (by unfold spr1; first | (rw [if_pos ⟨‹_›, ‹_›, ‹_›⟩]; done) | (rw [if_neg (by intro z; first | exact absurd z.1 ‹_› | exact absurd z.2.1 ‹_› | exact absurd z.2.2 ‹_›)]; done)) ⟨rfl, rfl, rfl, rfl, rfl, trivial⟩
    · skip
      refine R_aload_n dX9_spreads_52 rfl rfl rfl ?_
      refine R_iload dX9_spreads_53 rfl ?_
      refine R_cV1 0 dX9_spreads_55 rfl cv_X9_80 mh_get0 rfl rfl (Nat.le_of_ble_eq_true rfl) (Nat.zero_le _) (sp_X9_isFree (by first | assumption | exact hI.1 _ | exact hI1.1 _ | exact hI2.1 _ | omega | (refine ⟨?_, ?_⟩ <;> omega)) (by first | assumption | exact hI.1 _ | exact hI1.1 _ | exact hI2.1 _ | omega | (refine ⟨?_, ?_⟩ <;> omega)) (kq.v ?_))
      refine Z_if_eqB dX9_spreads_58 (tgt := 84) (by decide) (fun c_58 => ?_) (fun c_58 => ?_)
      · skip
        refine R_iconst dX9_spreads_84 (v := zI (0)) rfl ?_
        exact jf_52 (by first | assumption | omega | grind | (simp [*]; done) | (simp_all; done))
      · skip
        refine R_aload_n dX9_spreads_61 rfl rfl rfl ?_
        refine R_iload dX9_spreads_62 rfl ?_
        refine R_cV1 0 dX9_spreads_64 rfl cv_X9_84 mh_get0 rfl rfl (Nat.le_of_ble_eq_true rfl) (Nat.zero_le _) (sp_X9_isNarrow (by first | assumption | exact hI.1 _ | exact hI1.1 _ | exact hI2.1 _ | omega | (refine ⟨?_, ?_⟩ <;> omega)) (by first | assumption | exact hI.1 _ | exact hI1.1 _ | exact hI2.1 _ | omega | (refine ⟨?_, ?_⟩ <;> omega)) (kq.v ?_))
        refine Z_if_eqB dX9_spreads_67 (tgt := 80) (by decide) (fun c_67 => ?_) (fun c_67 => ?_)
        · skip
          refine R_iconst dX9_spreads_80 (v := zI (1)) rfl ?_
          refine R_goto dX9_spreads_81 (tgt := 85) (by decide) ?_
          exact jt_52 (by first | assumption | omega | grind | (simp [*]; done) | (simp_all; done))
        · skip
          refine R_aload_n dX9_spreads_70 rfl rfl rfl ?_
          refine R_iload_n dX9_spreads_71 rfl rfl ?_
          refine R_iconst dX9_spreads_72 (v := zI (1)) rfl ?_
          refine R_cV2 0 dX9_spreads_73 rfl cv_X9_53 mh_get0 rfl rfl (Nat.le_of_ble_eq_true rfl) (Nat.zero_le _) (sp_X9_of (by first | assumption | exact hI.1 _ | exact hI1.1 _ | exact hI2.1 _ | omega | (refine ⟨?_, ?_⟩ <;> omega)) (kq.v ?_))
          refine R_iconst dX9_spreads_76 (v := zI (1)) rfl ?_
          refine Z_icmp_eq dX9_spreads_77 (by first | exact hI.1 _ | assumption | exact hI1.1 _ | exact hI2.1 _ | exact ⟨by omega, by omega⟩) (by first | exact hI.1 _ | assumption | exact hI1.1 _ | exact hI2.1 _ | exact ⟨by omega, by omega⟩) (tgt := 84) (by decide) (fun c_77 => ?_) (fun c_77 => ?_)
          · skip
            refine R_iconst dX9_spreads_84 (v := zI (0)) rfl ?_
            exact jf_52 (by first | assumption | omega | grind | (simp [*]; done) | (simp_all; done))
          · skip
            refine R_iconst dX9_spreads_80 (v := zI (1)) rfl ?_
            refine R_goto dX9_spreads_81 (tgt := 85) (by decide) ?_
            exact jt_52 (by first | assumption | omega | grind | (simp [*]; done) | (simp_all; done))

theorem lp_spr1 {Ω : Wd} {d r : Nat} {Q : Hp → Out → Prop} {b : Nat} {h0 : Hp} {σ : St} {q j : Int} (hI : MI σ) (hf : fR σ) (hq : 0 ≤ q ∧ q < 4) : ∀ (k n : Nat), n + k = 10 → At Ω M_X9_spreads (d + 1) r Q 148 [some (.ref b), none, none, none, none, none] [] (mh b h0 (sprS σ q 10)) → At Ω M_X9_spreads (d + 1) r Q 32 [some (.ref b), some (.int (zI (q))), some (.int (zI (j))), some (.int (zI (((n : Nat) : Int)))), none, none] [] (mh b h0 (sprS σ q n)) := by
  intro k
  induction k with
  | zero =>
    intro n hn hX
    have hnN : n = 10 := by omega
    rw [hnN]
    refine R_iload_n dX9_spreads_32 rfl rfl ?_
    refine R_bipush dX9_spreads_33 (v := zI (10)) rfl ?_
    refine Z_icmp_ge dX9_spreads_35 (by first | exact hI.1 _ | assumption | exact hI1.1 _ | exact hI2.1 _ | exact ⟨by omega, by omega⟩) (by first | exact hI.1 _ | assumption | exact hI1.1 _ | exact hI2.1 _ | exact ⟨by omega, by omega⟩) (tgt := 148) (by decide) (fun c_35 => ?_) (fun c_35 => absurd c_35 (by omega))
    exact At.dropS (L' := [some (.ref b), none, none, none, none, none]) ⟨rfl, trivial⟩ hX
  | succ k ih =>
    intro n hn hX
    refine R_iload_n dX9_spreads_32 rfl rfl ?_
    refine R_bipush dX9_spreads_33 (v := zI (10)) rfl ?_
    refine Z_icmp_ge dX9_spreads_35 (by first | exact hI.1 _ | assumption | exact hI1.1 _ | exact hI2.1 _ | exact ⟨by omega, by omega⟩) (by first | exact hI.1 _ | assumption | exact hI1.1 _ | exact hI2.1 _ | exact ⟨by omega, by omega⟩) (tgt := 148) (by decide) (fun c_35 => absurd c_35 (by omega)) (fun c_35 => ?_)
    obtain ⟨⟨hI1, hf1⟩, e1⟩ := sprS_inv hI hf (q := q) n (by omega)
    refine R_iconst dX9_spreads_38 (v := zI (0)) rfl ?_
    refine R_istore dX9_spreads_39 (by decide) rfl rfl ?_
    refine At.dropS (L' := [some (.ref b), some (.int (zI (q))), some (.int (zI (j))), some (.int (zI (((n) : Int)))), some (.int (zI (((0 : Nat) : Int)))), none]) ⟨rfl, rfl, rfl, rfl, rfl, trivial⟩ (lp_spr2 (σ := sprS σ q n) (m := n) hI1 hf1 hq (by omega) _ 0 (Nat.zero_add _) ?_)
    refine Z_iinc dX9_spreads_142 rfl (by decide) rfl rfl ?_
    refine R_goto dX9_spreads_145 (tgt := 32) (by decide) ?_
    exact At.dropS (L' := [some (.ref b), some (.int (zI (q))), some (.int (zI (j))), some (.int (zI ((((n + 1) : Nat) : Int)))), none, none]) ⟨rfl, rfl, rfl, rfl, trivial⟩ (ih (n + 1) (by omega) hX)

theorem sp_X9_spreads {Ω : Wd} {d r : Nat} {Q : Hp → Out → Prop} {b : Nat} {h0 : Hp} {σ : St} {q j : Int} (hI : MI σ) (hq : 0 ≤ q ∧ q < 4) (hj : 0 ≤ j ∧ j < 10) (hQ : Q (mh b h0 (sprF σ q j)) (.inl none)) : Ok Ω M_X9_spreads (d + 1) r [.ref b, .int (zI q), .int (zI j)] (mh b h0 (σ)) Q := by
  refine Ok.of (by decide) rfl (Nat.le_of_ble_eq_true rfl) rfl ?_
  have hf : fR (sprI σ j 10) := fun k hk => by rw [sprI_at 10 k (by omega)]; split <;> omega
  rw [sprF_def] at hQ
  refine R_iconst dX9_spreads_0 (v := zI (0)) rfl ?_
  refine R_istore_n dX9_spreads_1 rfl (by decide) rfl rfl ?_
  refine At.dropS (L' := [some (.ref b), some (.int (zI (q))), some (.int (zI (j))), some (.int (zI (((0 : Nat) : Int)))), none, none]) ⟨rfl, rfl, rfl, rfl, trivial⟩ (lp_spr0 hj _ 0 (Nat.zero_add _) ?_)
  refine R_iconst dX9_spreads_30 (v := zI (0)) rfl ?_
  refine R_istore_n dX9_spreads_31 rfl (by decide) rfl rfl ?_
  refine At.dropS (L' := [some (.ref b), some (.int (zI (q))), some (.int (zI (j))), some (.int (zI (((0 : Nat) : Int)))), none, none]) ⟨rfl, rfl, rfl, rfl, trivial⟩ (lp_spr1 (σ := sprI σ j 10) (sprI_MI hI j 10 (by omega)) hf hq _ 0 (Nat.zero_add _) ?_)
  refine Z_retV dX9_spreads_148 (rf_v rfl) ?_
  exact hQ

/-- the same but for the row far -/
abbrev eqF (σ τ : St) : Prop := (∀ x : Int, x < 730 ∨ 740 ≤ x → τ x = σ x) ∧ ∀ x : Int, rg (τ x)
theorem MI_eqF {σ τ : St} (hI : MI σ) (h : eqF σ τ) : MI τ := by
  obtain ⟨h1, h2, h3, h4, h5, h6, h7, h8, h9⟩ := hI
  have e0 : τ 0 = σ 0 := h.1 _ (by omega)
  have e1 : τ 117 = σ 117 := h.1 _ (by omega)
  refine ⟨h.2, by rw [e0]; exact h2, by rw [e1]; exact h3, by rw [h.1 _ (by omega)]; exact h4, by rw [h.1 _ (by omega)]; exact h5, by rw [h.1 _ (by omega)]; exact h6, ?_, ?_, ?_⟩
  · intro c hc
    rw [e0, h.1 _ (by omega), h.1 _ (by omega), h.1 _ (by omega)]; exact h7 c hc
  · intro k hk
    rw [e0] at hk
    rw [h.1 _ (by omega), h.1 _ (by omega), h.1 _ (by omega), h.1 _ (by omega)]; exact h8 k hk
  · intro p hp
    rw [e1] at hp
    rw [h.1 _ (by omega), h.1 _ (by omega), h.1 _ (by omega), h.1 _ (by omega), h.1 _ (by omega), h.1 _ (by omega)]; exact h9 p hp
theorem eqF.refl {σ : St} (h : ∀ x, rg (σ x)) : eqF σ σ := ⟨fun _ _ => rfl, h⟩
theorem eqF.trans {σ τ υ : St} (h : eqF σ τ) (h2 : eqF τ υ) : eqF σ υ := ⟨fun x hx => by rw [h2.1 x hx, h.1 x hx], h2.2⟩
theorem sprI_eqF {σ τ : St} (h : eqF σ τ) (j : Int) : sprI τ j 10 = sprI σ j 10 := by
  funext x
  by_cases hx : x < 730 ∨ 740 ≤ x
  · rw [sprI_out 10 (by omega) hx, sprI_out 10 (by omega) hx, h.1 x hx]
  · rw [show x = 730 + (x - 730) by omega, sprI_at 10 _ (by omega), sprI_at 10 _ (by omega)]
theorem sprF_eqF {σ τ : St} (h : eqF σ τ) (q j : Int) : sprF τ q j = sprF σ q j := by
  rw [sprF_def, sprF_def, sprI_eqF h]
theorem eqF_spr {σ : St} (hI : MI σ) (q j : Int) : eqF σ (sprF σ q j) := ⟨(sprF_inv hI q j).2, (sprF_inv hI q j).1.1.1⟩
/-- how far one junction is from another -/
noncomputable def farF (σ : St) (q j x : Int) : Int := sprF σ q j (730 + x)
theorem farF_eqF {σ τ : St} (h : eqF σ τ) (q j x : Int) : farF τ q j x = farF σ q j x := by
  unfold farF
  rw [sprF_eqF h]
theorem farF_bd {σ : St} (hI : MI σ) (q j : Int) {x : Int} (hx : 0 ≤ x ∧ x < 10) : -1 ≤ farF σ q j x ∧ farF σ q j x ≤ 10 := (sprF_inv hI q j).1.2 x hx
def mskS (σ : St) : Nat → Int
  | 0 => 0
  | n + 1 => mskS σ n + if σ (730 + (n : Int)) = -1 then 0 else ((2 ^ n : Nat) : Int)
theorem mskS_bd (σ : St) : ∀ n : Nat, 0 ≤ mskS σ n ∧ mskS σ n < ((2 ^ n : Nat) : Int)
  | 0 => by simp [mskS]
  | n + 1 => by
    have := mskS_bd σ n
    unfold mskS
    rw [Nat.pow_succ]
    split <;> omega
theorem or_msk {a : Int} {n : Nat} (hn : n < 10) (ha : 0 ≤ a ∧ a < ((2 ^ n : Nat) : Int)) : zI a ||| zI ((2 ^ n : Nat) : Int) = zI (a + ((2 ^ n : Nat) : Int)) := by
  obtain ⟨m, rfl⟩ : ∃ m : Nat, a = m := ⟨a.toNat, by omega⟩
  have hm : m < 2 ^ n := by omega
  have e := Nat.two_pow_add_eq_or_of_lt hm 1
  rw [Nat.mul_one, Nat.or_comm] at e
  rw [← Int.natCast_add, Nat.add_comm m, e, ← zI_nI, ← zI_nI, ← zI_nI]
  unfold nI
  apply Int32.toBitVec_inj.mp
  rw [Int32.toBitVec_or]
  exact (BitVec.ofNat_or ..).symm
theorem or_0 (a : Int) : zI a ||| zI 0 = zI (a + 0) := by
  rw [Int.add_zero]
  exact Int32.or_zero
theorem shl_msk {n : Nat} (hn : n < 10) : zI 1 <<< (zI (n : Int) &&& 31) = zI ((2 ^ n : Nat) : Int) := by
  have : ∀ n : Fin 10, zI 1 <<< (zI (n.1 : Int) &&& 31) = zI ((2 ^ n.1 : Nat) : Int) := by decide +kernel
  exact this ⟨n, hn⟩

theorem Z_ior {Ω : Wd} {M : MD} {d r : Nat} {Q : Hp → Out → Prop} {pc : Nat} {L : List (Option Value)} {S : List Value} {h : Hp} {x y v : Int32} (hd : decode M.code pc = .ok (.ior, 1)) (hv : x ||| y = v) (k : At Ω M d r Q (pc + 1) L (.int v :: S) h) : At Ω M d r Q pc L (.int y :: .int x :: S) h := R_ior hd (hv ▸ k)

theorem lp_reached {Ω : Wd} {d r : Nat} {Q : Hp → Out → Prop} {b : Nat} {h0 : Hp} {σ : St} {q : Int} (hI : MI σ) : ∀ (k n : Nat), n + k = 10 → At Ω M_X9_reached (d + 2) r Q 47 [some (.ref b), some (.int (zI (q))), some (.int (zI (mskS σ 10))), none] [] (mh b h0 (σ)) → At Ω M_X9_reached (d + 2) r Q 15 [some (.ref b), some (.int (zI (q))), some (.int (zI (mskS σ n))), some (.int (zI (((n : Nat) : Int))))] [] (mh b h0 (σ)) := by
  intro k
  induction k with
  | zero =>
    intro n hn hX
    have hnN : n = 10 := by omega
    rw [hnN]
    have hb := mskS_bd σ 10
    refine R_iload_n dX9_reached_15 rfl rfl ?_
    refine R_bipush dX9_reached_16 (v := zI (10)) rfl ?_
    refine Z_icmp_ge dX9_reached_18 (by first | exact hI.1 _ | assumption | exact hI1.1 _ | exact hI2.1 _ | exact ⟨by omega, by omega⟩) (by first | exact hI.1 _ | assumption | exact hI1.1 _ | exact hI2.1 _ | exact ⟨by omega, by omega⟩) (tgt := 47) (by decide) (fun c_18 => ?_) (fun c_18 => absurd c_18 (by omega))
    exact At.dropS (L' := [some (.ref b), some (.int (zI (q))), some (.int (zI (mskS σ 10))), none]) ⟨rfl, rfl, rfl, trivial⟩ hX
  | succ k ih =>
    intro n hn hX
    have hb := mskS_bd σ n
    refine R_iload_n dX9_reached_15 rfl rfl ?_
    refine R_bipush dX9_reached_16 (v := zI (10)) rfl ?_
    refine Z_icmp_ge dX9_reached_18 (by first | exact hI.1 _ | assumption | exact hI1.1 _ | exact hI2.1 _ | exact ⟨by omega, by omega⟩) (by first | exact hI.1 _ | assumption | exact hI1.1 _ | exact hI2.1 _ | exact ⟨by omega, by omega⟩) (tgt := 47) (by decide) (fun c_18 => absurd c_18 (by omega)) (fun c_18 => ?_)
    refine R_iload_n dX9_reached_21 rfl rfl ?_
    refine z_joinI (if σ (730 + ((n : Nat) : Int)) = -1 then 0 else ((2 ^ n : Nat) : Int)) 39 ?_ (fun jj_22 => ?_)
    · skip
      refine Z_ior dX9_reached_39 (v := zI (mskS σ n + if σ (730 + (n : Int)) = -1 then 0 else ((2 ^ n : Nat) : Int))) (by split; exact or_0 _; exact or_msk (by omega) hb) ?_
      refine R_istore_n dX9_reached_40 rfl (by decide) rfl rfl ?_
      refine Z_iinc dX9_reached_41 rfl (by decide) rfl rfl ?_
      refine R_goto dX9_reached_44 (tgt := 15) (by decide) ?_
      exact At.dropS (L' := [some (.ref b), some (.int (zI (q))), some (.int (zI (mskS σ (n + 1)))), some (.int (zI ((((n + 1) : Nat) : Int))))]) ⟨rfl, rfl, rfl, rfl, trivial⟩ (ih (n + 1) (by omega) hX)
    · skip
      refine R_aload_n dX9_reached_22 rfl rfl rfl ?_
      refine Zm_gf dX9_reached_23 gf_X9_28 rfl ?_
      refine R_iload_n dX9_reached_26 rfl rfl ?_
      refine Zm_ld7 dX9_reached_27 (by omega) ?_
      refine R_iconst dX9_reached_28 (v := zI (-1)) rfl ?_
      refine Z_icmp_ne dX9_reached_29 (by first | exact hI.1 _ | assumption | exact hI1.1 _ | exact hI2.1 _ | exact ⟨by omega, by omega⟩) (by first | exact hI.1 _ | assumption | exact hI1.1 _ | exact hI2.1 _ | exact ⟨by omega, by omega⟩) (tgt := 36) (by decide) (fun c_29 => ?_) (fun c_29 => ?_)
      · skip
        refine R_iconst dX9_reached_36 (v := zI (1)) rfl ?_
        refine R_iload_n dX9_reached_37 rfl rfl ?_
        refine R_ishl dX9_reached_38 (shl_msk (by omega)) ?_
        exact jj_22 _ (by first | rfl | (simp [*]; done) | omega | grind)
      · skip
        refine R_iconst dX9_reached_32 (v := zI (0)) rfl ?_
        refine R_goto dX9_reached_33 (tgt := 39) (by decide) ?_
        exact jj_22 _ (by first | rfl | (simp [*]; done) | omega | grind)

noncomputable def reachF (σ : St) (q : Int) : Int := mskS (sprF σ q (σ (97 + 5 * q + 0))) 10

theorem sp_X9_reached {Ω : Wd} {d r : Nat} {Q : Hp → Out → Prop} {b : Nat} {h0 : Hp} {σ : St} {q : Int} (hI : MI σ) (hq : 0 ≤ q ∧ q < 4) (hQ : Q (mh b h0 (sprF σ q (σ (97 + 5 * q + 0)))) (.inl (some (.int (zI (reachF σ q)))))) : Ok Ω M_X9_reached (d + 2) r [.ref b, .int (zI q)] (mh b h0 (σ)) Q := by
  refine Ok.of (by decide) rfl (Nat.le_of_ble_eq_true rfl) rfl ?_
  have h7 := hI.2.2.2.2.2.2.1 q hq
  have hI2 := (sprF_inv hI q (σ (97 + 5 * q + 0))).1.1
  refine R_aload_n dX9_reached_0 rfl rfl rfl ?_
  refine R_iload_n dX9_reached_1 rfl rfl ?_
  refine R_aload_n dX9_reached_2 rfl rfl rfl ?_
  refine R_iload_n dX9_reached_3 rfl rfl ?_
  refine R_iconst dX9_reached_4 (v := zI (0)) rfl ?_
  refine R_cV2 0 dX9_reached_5 rfl cv_X9_53 mh_get0 rfl rfl (Nat.le_of_ble_eq_true rfl) (Nat.zero_le _) (sp_X9_of (by first | assumption | exact hI.1 _ | exact hI1.1 _ | exact hI2.1 _ | omega | (refine ⟨?_, ?_⟩ <;> omega)) (kq.v ?_))
  refine R_cV2 0 dX9_reached_8 rfl cv_X9_185 mh_get0 rfl rfl (Nat.le_of_ble_eq_true rfl) (Nat.zero_le _) (sp_X9_spreads (by first | assumption | exact hI.1 _ | exact hI1.1 _ | exact hI2.1 _ | omega | (refine ⟨?_, ?_⟩ <;> omega)) (by first | assumption | exact hI.1 _ | exact hI1.1 _ | exact hI2.1 _ | omega | (refine ⟨?_, ?_⟩ <;> omega)) (by first | assumption | exact hI.1 _ | exact hI1.1 _ | exact hI2.1 _ | omega | (refine ⟨?_, ?_⟩ <;> omega)) (kq.n ?_))
  refine R_iconst dX9_reached_11 (v := zI (0)) rfl ?_
  refine R_istore_n dX9_reached_12 rfl (by decide) rfl rfl ?_
  refine R_iconst dX9_reached_13 (v := zI (0)) rfl ?_
  refine R_istore_n dX9_reached_14 rfl (by decide) rfl rfl ?_
  refine At.dropS (L' := [some (.ref b), some (.int (zI (q))), some (.int (zI (mskS (sprF σ q (σ (97 + 5 * q + 0))) 0))), some (.int (zI (((0 : Nat) : Int))))]) ⟨rfl, rfl, rfl, rfl, trivial⟩ (lp_reached hI2 _ 0 (Nat.zero_add _) ?_)
  refine R_iload_n dX9_reached_47 rfl rfl ?_
  refine Z_retI dX9_reached_48 (rf_i rfl) ?_
  first | exact hQ | exact mQi hQ rfl (by first | rfl | omega | exact b2i_1 (by omega) | exact b2i_0 (by omega) | (simp [*]; done))

theorem sp_X9_reach {Ω : Wd} {d r : Nat} {Q : Hp → Out → Prop} {b : Nat} {h0 : Hp} {σ : St} {q : Int} {τ : St} (hτ : us σ 703 0 = τ) (hI : MI τ) (hq : rg q) (h1 : ¬ (0 ≤ q ∧ q ≤ 3) → Q (mh b h0 (us τ 703 1)) (.inl (some (.int (zI 0))))) (h2 : (0 ≤ q ∧ q ≤ 3) → Q (mh b h0 (sprF τ q (τ (97 + 5 * q + 0)))) (.inl (some (.int (zI (reachF τ q)))))) : Ok Ω M_X9_reach (d + 3) r [.ref b, .int (zI q)] (mh b h0 (σ)) Q := by
  refine Ok.of (by decide) rfl (Nat.le_of_ble_eq_true rfl) rfl ?_
  refine R_aload_n dX9_reach_0 rfl rfl rfl ?_
  refine R_iconst dX9_reach_1 (v := zI (0)) rfl ?_
  refine Zm_pf7 dX9_reach_2 pf_X9_38 ?_
  rw [hτ]
  refine R_iload_n dX9_reach_5 rfl rfl ?_
  refine R_cS1 0 dX9_reach_6 rfl cs_X9_134 (Nat.le_of_ble_eq_true rfl) (Nat.zero_le _) (sp_X9_isCourier (by first | assumption | exact hI.1 _ | exact hI1.1 _ | exact hI2.1 _ | omega | (refine ⟨?_, ?_⟩ <;> omega)) (kq.v ?_))
  refine Z_if_eqB dX9_reach_9 (tgt := 20) (by decide) (fun c_9 => ?_) (fun c_9 => ?_)
  · skip
    refine R_aload_n dX9_reach_20 rfl rfl rfl ?_
    refine R_iconst dX9_reach_21 (v := zI (1)) rfl ?_
    refine R_cV1 0 dX9_reach_22 rfl cv_X9_122 mh_get0 rfl rfl (Nat.le_of_ble_eq_true rfl) (Nat.zero_le _) (sp_X9_throwing  (kq.v ?_))
    refine Z_retI dX9_reach_25 (rf_i rfl) ?_
    first | (have z : 0 ≤ q ∧ q ≤ 3 := (by omega); exact h2 z) | (have z : ¬ (0 ≤ q ∧ q ≤ 3) := (by omega); exact h1 z)
  · skip
    refine R_aload_n dX9_reach_12 rfl rfl rfl ?_
    refine R_iload_n dX9_reach_13 rfl rfl ?_
    refine R_cV1 0 dX9_reach_14 rfl cv_X9_189 mh_get0 rfl rfl (Nat.le_of_ble_eq_true rfl) (Nat.zero_le _) (sp_X9_reached (by first | assumption | exact hI.1 _ | exact hI1.1 _ | exact hI2.1 _ | omega | (refine ⟨?_, ?_⟩ <;> omega)) (by first | assumption | exact hI.1 _ | exact hI1.1 _ | exact hI2.1 _ | omega | (refine ⟨?_, ?_⟩ <;> omega)) (kq.v ?_))
    refine R_goto dX9_reach_17 (tgt := 25) (by decide) ?_
    refine Z_retI dX9_reach_25 (rf_i rfl) ?_
    first | (have z : 0 ≤ q ∧ q ≤ 3 := (by omega); exact h2 z) | (have z : ¬ (0 ≤ q ∧ q ≤ 3) := (by omega); exact h1 z)

theorem sp_X9_reachByJoining {Ω : Wd} {d r : Nat} {Q : Hp → Out → Prop} {b : Nat} {h0 : Hp} {σ : St} {q : Int} {τ : St} (hτ : us σ 703 0 = τ) (hI : MI τ) (hq : rg q) (h1 : ¬ (0 ≤ q ∧ q ≤ 3) → Q (mh b h0 (us τ 703 1)) (.inl (some (.int (zI 0))))) (h2 : (0 ≤ q ∧ q ≤ 3) → Q (mh b h0 (sprF τ q (τ (97 + 5 * q + 0)))) (.inl (some (.int (zI (reachF τ q)))))) : Ok Ω M_X9_reachByJoining (d + 3) r [.ref b, .int (zI q)] (mh b h0 (σ)) Q := by
  refine Ok.of (by decide) rfl (Nat.le_of_ble_eq_true rfl) rfl ?_
  refine R_aload_n dX9_reachByJoining_0 rfl rfl rfl ?_
  refine R_iconst dX9_reachByJoining_1 (v := zI (0)) rfl ?_
  refine Zm_pf7 dX9_reachByJoining_2 pf_X9_38 ?_
  rw [hτ]
  refine R_iload_n dX9_reachByJoining_5 rfl rfl ?_
  refine R_cS1 0 dX9_reachByJoining_6 rfl cs_X9_134 (Nat.le_of_ble_eq_true rfl) (Nat.zero_le _) (sp_X9_isCourier (by first | assumption | exact hI.1 _ | exact hI1.1 _ | exact hI2.1 _ | omega | (refine ⟨?_, ?_⟩ <;> omega)) (kq.v ?_))
  refine Z_if_eqB dX9_reachByJoining_9 (tgt := 20) (by decide) (fun c_9 => ?_) (fun c_9 => ?_)
  · skip
    refine R_aload_n dX9_reachByJoining_20 rfl rfl rfl ?_
    refine R_iconst dX9_reachByJoining_21 (v := zI (1)) rfl ?_
    refine R_cV1 0 dX9_reachByJoining_22 rfl cv_X9_122 mh_get0 rfl rfl (Nat.le_of_ble_eq_true rfl) (Nat.zero_le _) (sp_X9_throwing  (kq.v ?_))
    refine Z_retI dX9_reachByJoining_25 (rf_i rfl) ?_
    first | (have z : 0 ≤ q ∧ q ≤ 3 := (by omega); exact h2 z) | (have z : ¬ (0 ≤ q ∧ q ≤ 3) := (by omega); exact h1 z)
  · skip
    refine R_aload_n dX9_reachByJoining_12 rfl rfl rfl ?_
    refine R_iload_n dX9_reachByJoining_13 rfl rfl ?_
    refine R_cV1 0 dX9_reachByJoining_14 rfl cv_X9_189 mh_get0 rfl rfl (Nat.le_of_ble_eq_true rfl) (Nat.zero_le _) (sp_X9_reached (by first | assumption | exact hI.1 _ | exact hI1.1 _ | exact hI2.1 _ | omega | (refine ⟨?_, ?_⟩ <;> omega)) (by first | assumption | exact hI.1 _ | exact hI1.1 _ | exact hI2.1 _ | omega | (refine ⟨?_, ?_⟩ <;> omega)) (kq.v ?_))
    refine R_goto dX9_reachByJoining_17 (tgt := 25) (by decide) ?_
    refine Z_retI dX9_reachByJoining_25 (rf_i rfl) ?_
    first | (have z : 0 ≤ q ∧ q ≤ 3 := (by omega); exact h2 z) | (have z : ¬ (0 ≤ q ∧ q ≤ 3) := (by omega); exact h1 z)

theorem sp_X9_way {Ω : Wd} {d r : Nat} {Q : Hp → Out → Prop} {b : Nat} {h0 : Hp} {σ : St} {q j x : Int} (hI : MI σ) (hq : 0 ≤ q ∧ q < 4) (hj : 0 ≤ j ∧ j < 10) (hx : 0 ≤ x ∧ x < 10) (hQ : Q (mh b h0 (sprF σ q j)) (.inl (some (.int (zI (farF σ q j x)))))) : Ok Ω M_X9_way (d + 2) r [.ref b, .int (zI q), .int (zI j), .int (zI x)] (mh b h0 (σ)) Q := by
  refine Ok.of (by decide) rfl (Nat.le_of_ble_eq_true rfl) rfl ?_
  refine R_aload_n dX9_way_0 rfl rfl rfl ?_
  refine R_iload_n dX9_way_1 rfl rfl ?_
  refine R_iload_n dX9_way_2 rfl rfl ?_
  refine R_cV2 0 dX9_way_3 rfl cv_X9_185 mh_get0 rfl rfl (Nat.le_of_ble_eq_true rfl) (Nat.zero_le _) (sp_X9_spreads (by first | assumption | exact hI.1 _ | exact hI1.1 _ | exact hI2.1 _ | omega | (refine ⟨?_, ?_⟩ <;> omega)) (by first | assumption | exact hI.1 _ | exact hI1.1 _ | exact hI2.1 _ | omega | (refine ⟨?_, ?_⟩ <;> omega)) (by first | assumption | exact hI.1 _ | exact hI1.1 _ | exact hI2.1 _ | omega | (refine ⟨?_, ?_⟩ <;> omega)) (kq.n ?_))
  refine R_aload_n dX9_way_6 rfl rfl rfl ?_
  refine Zm_gf dX9_way_7 gf_X9_28 rfl ?_
  refine R_iload_n dX9_way_10 rfl rfl ?_
  refine Zm_ld7 dX9_way_11 (by omega) ?_
  refine Z_retI dX9_way_12 (rf_i rfl) ?_
  first | exact hQ | exact mQi hQ rfl (by first | rfl | omega | exact b2i_1 (by omega) | exact b2i_0 (by omega) | (simp [*]; done))

theorem sp_X9_distance {Ω : Wd} {d r : Nat} {Q : Hp → Out → Prop} {b : Nat} {h0 : Hp} {σ : St} {q x : Int} {τ : St} (hτ : us σ 703 0 = τ) (hI : MI τ) (hq : rg q) (hx : rg x) (h1 : ¬ ((0 ≤ q ∧ q ≤ 3) ∧ (0 ≤ x ∧ x ≤ 9)) → Q (mh b h0 (us τ 703 1)) (.inl (some (.int (zI 0))))) (h2 : ((0 ≤ q ∧ q ≤ 3) ∧ (0 ≤ x ∧ x ≤ 9)) → Q (mh b h0 (sprF τ q (τ (97 + 5 * q + 0)))) (.inl (some (.int (zI (farF τ q (τ (97 + 5 * q + 0)) x)))))) : Ok Ω M_X9_distance (d + 3) r [.ref b, .int (zI q), .int (zI x)] (mh b h0 (σ)) Q := by
  refine Ok.of (by decide) rfl (Nat.le_of_ble_eq_true rfl) rfl ?_
  refine R_aload_n dX9_distance_0 rfl rfl rfl ?_
  refine R_iconst dX9_distance_1 (v := zI (0)) rfl ?_
  refine Zm_pf7 dX9_distance_2 pf_X9_38 ?_
  rw [hτ]
  refine R_iload_n dX9_distance_5 rfl rfl ?_
  refine R_cS1 0 dX9_distance_6 rfl cs_X9_134 (Nat.le_of_ble_eq_true rfl) (Nat.zero_le _) (sp_X9_isCourier (by first | assumption | exact hI.1 _ | exact hI1.1 _ | exact hI2.1 _ | omega | (refine ⟨?_, ?_⟩ <;> omega)) (kq.v ?_))
  refine Z_if_eqB dX9_distance_9 (tgt := 34) (by decide) (fun c_9 => ?_) (fun c_9 => ?_)
  · skip
    refine R_aload_n dX9_distance_34 rfl rfl rfl ?_
    refine R_iconst dX9_distance_35 (v := zI (1)) rfl ?_
    refine R_cV1 0 dX9_distance_36 rfl cv_X9_122 mh_get0 rfl rfl (Nat.le_of_ble_eq_true rfl) (Nat.zero_le _) (sp_X9_throwing  (kq.v ?_))
    refine Z_retI dX9_distance_39 (rf_i rfl) ?_
    first | (have z : (0 ≤ q ∧ q ≤ 3) ∧ (0 ≤ x ∧ x ≤ 9) := (by omega); exact h2 z) | (have z : ¬ ((0 ≤ q ∧ q ≤ 3) ∧ (0 ≤ x ∧ x ≤ 9)) := (by omega); exact h1 z)
  · skip
    have h7 := hI.2.2.2.2.2.2.1 q (by omega)
    refine R_iload_n dX9_distance_12 rfl rfl ?_
    refine R_cS1 0 dX9_distance_13 rfl cs_X9_119 (Nat.le_of_ble_eq_true rfl) (Nat.zero_le _) (sp_X9_isJunction (by first | assumption | exact hI.1 _ | exact hI1.1 _ | exact hI2.1 _ | omega | (refine ⟨?_, ?_⟩ <;> omega)) (kq.v ?_))
    refine Z_if_eqB dX9_distance_16 (tgt := 34) (by decide) (fun c_16 => ?_) (fun c_16 => ?_)
    · skip
      refine R_aload_n dX9_distance_34 rfl rfl rfl ?_
      refine R_iconst dX9_distance_35 (v := zI (1)) rfl ?_
      refine R_cV1 0 dX9_distance_36 rfl cv_X9_122 mh_get0 rfl rfl (Nat.le_of_ble_eq_true rfl) (Nat.zero_le _) (sp_X9_throwing  (kq.v ?_))
      refine Z_retI dX9_distance_39 (rf_i rfl) ?_
      first | (have z : (0 ≤ q ∧ q ≤ 3) ∧ (0 ≤ x ∧ x ≤ 9) := (by omega); exact h2 z) | (have z : ¬ ((0 ≤ q ∧ q ≤ 3) ∧ (0 ≤ x ∧ x ≤ 9)) := (by omega); exact h1 z)
    · skip
      refine R_aload_n dX9_distance_19 rfl rfl rfl ?_
      refine R_iload_n dX9_distance_20 rfl rfl ?_
      refine R_aload_n dX9_distance_21 rfl rfl rfl ?_
      refine R_iload_n dX9_distance_22 rfl rfl ?_
      refine R_iconst dX9_distance_23 (v := zI (0)) rfl ?_
      refine R_cV2 0 dX9_distance_24 rfl cv_X9_53 mh_get0 rfl rfl (Nat.le_of_ble_eq_true rfl) (Nat.zero_le _) (sp_X9_of (by first | assumption | exact hI.1 _ | exact hI1.1 _ | exact hI2.1 _ | omega | (refine ⟨?_, ?_⟩ <;> omega)) (kq.v ?_))
      refine R_iload_n dX9_distance_27 rfl rfl ?_
      refine R_cV3 0 dX9_distance_28 rfl cv_X9_192 mh_get0 rfl rfl (Nat.le_of_ble_eq_true rfl) (Nat.zero_le _) (sp_X9_way (by first | assumption | exact hI.1 _ | exact hI1.1 _ | exact hI2.1 _ | omega | (refine ⟨?_, ?_⟩ <;> omega)) (by first | assumption | exact hI.1 _ | exact hI1.1 _ | exact hI2.1 _ | omega | (refine ⟨?_, ?_⟩ <;> omega)) (by first | assumption | exact hI.1 _ | exact hI1.1 _ | exact hI2.1 _ | omega | (refine ⟨?_, ?_⟩ <;> omega)) (by first | assumption | exact hI.1 _ | exact hI1.1 _ | exact hI2.1 _ | omega | (refine ⟨?_, ?_⟩ <;> omega)) (kq.v ?_))
      refine R_goto dX9_distance_31 (tgt := 39) (by decide) ?_
      refine Z_retI dX9_distance_39 (rf_i rfl) ?_
      first | (have z : (0 ≤ q ∧ q ≤ 3) ∧ (0 ≤ x ∧ x ≤ 9) := (by omega); exact h2 z) | (have z : ¬ ((0 ≤ q ∧ q ≤ 3) ∧ (0 ≤ x ∧ x ≤ 9)) := (by omega); exact h1 z)


