/-! the model: parts -/
set_option maxRecDepth 100000
def ltF (σ : St) (a : Int) : Int := if a < σ 702 then σ (600 + a) else 0
abbrev okL (l : Int) : Prop := l = 111 ∨ l = 115 ∨ l = 116 ∨ l = 114
def p2A (σ : St) (a l : Int) : Int := if l = 111 ∨ l = 115 then sgA σ (a + 1) 0 48 51 else a + 1
def p2W (σ : St) (a l : Int) : Int := if l = 111 ∨ l = 115 then sgW σ (a + 1) 0 48 51 else 0
def p2V (σ : St) (a l : Int) : Int := if l = 111 ∨ l = 115 then sgC σ (a + 1) 0 - 48 else 0
def p3A (σ : St) (a l : Int) : Int := if l = 111 then sgA σ (p2A σ a l) (p2W σ a l) 62 62 else p2A σ a l
def p3W (σ : St) (a l : Int) : Int := if l = 111 then sgW σ (p2A σ a l) (p2W σ a l) 62 62 else p2W σ a l
def p4A (σ : St) (a l : Int) : Int := if l = 111 ∨ l = 116 then nuA σ (p3A σ a l) (p3W σ a l) else p3A σ a l
def p4W (σ : St) (a l : Int) : Int := if l = 111 ∨ l = 116 then nuW σ (p3A σ a l) (p3W σ a l) else p3W σ a l
def p4V (σ : St) (a l : Int) : Int := if l = 111 ∨ l = 116 then nuV σ (p3A σ a l) (p3W σ a l) else 0
theorem p2_bd (σ : St) (a l : Int) : (a + 1 ≤ p2A σ a l ∧ p2A σ a l ≤ a + 2) ∧ (0 ≤ p2W σ a l ∧ p2W σ a l ≤ 1) := by
  have h1 := sgA_bd σ (a + 1) 0 48 51
  have h2 := sgW_bd σ (a + 1) 0 48 51
  unfold p2A p2W
  split <;> omega
theorem p3_bd (σ : St) (a l : Int) : (a + 1 ≤ p3A σ a l ∧ p3A σ a l ≤ a + 3) ∧ (0 ≤ p3W σ a l ∧ p3W σ a l ≤ 1) := by
  have h0 := p2_bd σ a l
  have h1 := sgA_bd σ (p2A σ a l) (p2W σ a l) 62 62
  have h2 := sgW_bd σ (p2A σ a l) (p2W σ a l) 62 62
  unfold p3A p3W
  split <;> omega
theorem p4_bd (σ : St) (a l : Int) : (a + 1 ≤ p4A σ a l ∧ p4A σ a l ≤ a + 5) ∧ (0 ≤ p4W σ a l ∧ p4W σ a l ≤ 1) := by
  have h0 := p3_bd σ a l
  have h1 := nuA_bd σ (p3A σ a l) (p3W σ a l)
  have h2 := nuW_bd σ (p3A σ a l) (p3W σ a l)
  unfold p4A p4W
  split <;> omega
abbrev bufP (σ : St) : Prop := ∀ k : Int, 0 ≤ k ∧ k < 60 → 0 ≤ σ (600 + k) ∧ σ (600 + k) ≤ 1000

theorem part_bad {Ω : Wd} {d r : Nat} {Q : Hp → Out → Prop} {b : Nat} {h0 : Hp} {σ : St} {a z l : Int} (hI : MI σ) (hok : ¬ okL l) (ha : 0 ≤ a ∧ a ≤ 800) (h1 : Q (mh b h0 (ps σ a 1)) (.inl (some (.int (zI 1))))) : At Ω M_X9_part (d + 5) r Q 62 [some (.ref b), some (.int (zI z)), some (.int (zI l)), none, none, none, none, none, none] [.int (zI 1), .ref b] (mh b h0 (ps σ a 0)) := by
  refine Zm_pf11 dX9_part_62 pf_X9_152 (by omega) ?_
  rw [ps_wr]
  refine R_aload_n dX9_part_65 rfl rfl rfl ?_
  refine R_dup dX9_part_66 rfl ?_
  refine Zm_gf dX9_part_67 gf_X9_149 rfl ?_
  rw [ps_4]
  refine R_aload_n dX9_part_70 rfl rfl rfl ?_
  refine Zm_gf dX9_part_71 gf_X9_152 rfl ?_
  rw [ps_5]
  refine Z_if_eq dX9_part_74 (by first | exact hI.1 _ | assumption | exact hI1.1 _ | exact hI2.1 _ | exact ⟨by omega, by omega⟩) (tgt := 81) (by decide) (fun c_74 => absurd c_74 (by omega)) (fun c_74 => ?_)
  refine R_iconst dX9_part_77 (v := zI (0)) rfl ?_
  refine R_goto dX9_part_78 (tgt := 82) (by decide) ?_
  refine Z_iadd dX9_part_82 ?_
  refine Zm_pf10 dX9_part_83 pf_X9_149 ?_
  rw [ps_at, Int.add_zero]
  refine R_aload_n dX9_part_86 rfl rfl rfl ?_
  refine Zm_gf dX9_part_87 gf_X9_152 rfl ?_
  rw [ps_5]
  refine Z_if_eq dX9_part_90 (by first | exact hI.1 _ | assumption | exact hI1.1 _ | exact hI2.1 _ | exact ⟨by omega, by omega⟩) (tgt := 95) (by decide) (fun c_90 => absurd c_90 (by omega)) (fun c_90 => ?_)
  refine R_iconst dX9_part_93 (v := zI (1)) rfl ?_
  refine Z_retI dX9_part_94 (rf01 rfl (by omega)) ?_
  exact h1
theorem part_in {Ω : Wd} {d r : Nat} {Q : Hp → Out → Prop} {b : Nat} {h0 : Hp} {σ : St} {a z : Int} (hI : MI σ) (hb : bufP σ) (ha : 0 ≤ a ∧ a ≤ 800) (h1 : ¬ okL (ltF σ a) → Q (mh b h0 (ps σ a 1)) (.inl (some (.int (zI 1))))) (hX : okL (ltF σ a) → At Ω M_X9_part (d + 5) r Q 165 [some (.ref b), some (.int (zI z)), some (.int (zI (ltF σ a))), some (.int (zI (p2V σ a (ltF σ a)))), none, some (.int (zI (p4V σ a (ltF σ a)))), none, none, none] [] (mh b h0 (ps σ (p4A σ a (ltF σ a)) (p4W σ a (ltF σ a))))) : At Ω M_X9_part (d + 5) r Q 0 [some (.ref b), some (.int (zI z)), none, none, none, none, none, none, none] [] (mh b h0 (ps σ a 0)) := by
  have hl60 := hI.2.2.2.2.2.1
  have hlt : 0 ≤ ltF σ a ∧ ltF σ a ≤ 1000 := by unfold ltF; split; exact hb _ (by omega); decide
  obtain ⟨l, hl⟩ : ∃ l, ltF σ a = l := ⟨_, rfl⟩
  rw [hl] at h1 hX hlt
  have hb2 := p2_bd σ a l
  have hb3 := p3_bd σ a l
  have hcb : 0 ≤ sgC σ (a + 1) 0 ∧ sgC σ (a + 1) 0 ≤ 1000 := by unfold sgC; split; exact hb _ (by omega); decide
  refine z_joinI (l) 24 ?_ (fun jj_0 => ?_)
  · skip
    refine R_istore_n dX9_part_24 rfl (by decide) rfl rfl ?_
    refine R_aload_n dX9_part_25 rfl rfl rfl ?_
    refine z_joinI (if okL l then 0 else 1) 62 ?_ (fun jj_26 => ?_)
    · skip
      by_cases hok : okL l
      rotate_left
      · rw [if_neg hok]
        exact part_bad hI hok ha (h1 hok)
      rw [if_pos hok]
      refine Zm_pf11 dX9_part_62 pf_X9_152 (by omega) ?_
      rw [ps_wr]
      refine R_aload_n dX9_part_65 rfl rfl rfl ?_
      refine R_dup dX9_part_66 rfl ?_
      refine Zm_gf dX9_part_67 gf_X9_149 rfl ?_
      rw [ps_4]
      refine R_aload_n dX9_part_70 rfl rfl rfl ?_
      refine Zm_gf dX9_part_71 gf_X9_152 rfl ?_
      rw [ps_5]
      refine Z_if_eq dX9_part_74 (by first | exact hI.1 _ | assumption | exact hI1.1 _ | exact hI2.1 _ | exact ⟨by omega, by omega⟩) (tgt := 81) (by decide) (fun c_74 => ?_) (fun c_74 => absurd c_74 (by omega))
      refine R_iconst dX9_part_81 (v := zI (1)) rfl ?_
      refine Z_iadd dX9_part_82 ?_
      refine Zm_pf10 dX9_part_83 pf_X9_149 ?_
      rw [ps_at]
      refine R_aload_n dX9_part_86 rfl rfl rfl ?_
      refine Zm_gf dX9_part_87 gf_X9_152 rfl ?_
      rw [ps_5]
      refine Z_if_eq dX9_part_90 (by first | exact hI.1 _ | assumption | exact hI1.1 _ | exact hI2.1 _ | exact ⟨by omega, by omega⟩) (tgt := 95) (by decide) (fun c_90 => ?_) (fun c_90 => absurd c_90 (by omega))
      refine z_joinS [some (.ref b), some (.int (zI (z))), some (.int (zI (l))), some (.int (zI (p2V σ a l))), none, none, none, none, none] (ps σ (p2A σ a l) (p2W σ a l)) 123 ?_ (fun js_95 => ?_)
      · skip
        refine z_joinS [some (.ref b), some (.int (zI (z))), some (.int (zI (l))), some (.int (zI (p2V σ a l))), none, none, none, none, none] (ps σ (p3A σ a l) (p3W σ a l)) 143 ?_ (fun js_123 => ?_)
        · skip
          refine z_joinS [some (.ref b), some (.int (zI (z))), some (.int (zI (l))), some (.int (zI (p2V σ a l))), none, some (.int (zI (p4V σ a l))), none, none, none] (ps σ (p4A σ a l) (p4W σ a l)) 165 ?_ (fun js_143 => ?_)
          · skip
            exact hX hok
          · skip
            refine R_iload_n dX9_part_143 rfl rfl ?_
            refine R_bipush dX9_part_144 (v := zI (111)) rfl ?_
            refine Z_icmp_eq dX9_part_146 (by first | exact hI.1 _ | assumption | exact hI1.1 _ | exact hI2.1 _ | exact ⟨by omega, by omega⟩) (by first | exact hI.1 _ | assumption | exact hI1.1 _ | exact hI2.1 _ | exact ⟨by omega, by omega⟩) (tgt := 155) (by decide) (fun c_146 => ?_) (fun c_146 => ?_)
            · skip
              refine R_aload_n dX9_part_155 rfl rfl rfl ?_
              refine R_cV0 0 dX9_part_156 rfl cv_X9_159 mh_get0 rfl rfl (Nat.le_of_ble_eq_true rfl) (Nat.zero_le _) (sp_X9_number hI hb (by omega) (by omega) (kq.v ?_))
              refine R_goto dX9_part_159 (tgt := 163) (by decide) ?_
              refine R_istore dX9_part_163 (by decide) rfl rfl ?_
              exact js_143 _ _ (by unfold p4A p4W; first | (rw [if_pos (by omega), if_pos (by omega)]; done) | (rw [if_neg (by omega), if_neg (by omega)]; done)) (by unfold p4V; first | (rw [if_pos (by omega)]; exact ⟨rfl, rfl, rfl, rfl, rfl, trivial⟩) | (rw [if_neg (by omega)]; exact ⟨rfl, rfl, rfl, rfl, rfl, trivial⟩))
            · skip
              refine R_iload_n dX9_part_149 rfl rfl ?_
              refine R_bipush dX9_part_150 (v := zI (116)) rfl ?_
              refine Z_icmp_ne dX9_part_152 (by first | exact hI.1 _ | assumption | exact hI1.1 _ | exact hI2.1 _ | exact ⟨by omega, by omega⟩) (by first | exact hI.1 _ | assumption | exact hI1.1 _ | exact hI2.1 _ | exact ⟨by omega, by omega⟩) (tgt := 162) (by decide) (fun c_152 => ?_) (fun c_152 => ?_)
              · skip
                refine R_iconst dX9_part_162 (v := zI (0)) rfl ?_
                refine R_istore dX9_part_163 (by decide) rfl rfl ?_
                exact js_143 _ _ (by unfold p4A p4W; first | (rw [if_pos (by omega), if_pos (by omega)]; done) | (rw [if_neg (by omega), if_neg (by omega)]; done)) (by unfold p4V; first | (rw [if_pos (by omega)]; exact ⟨rfl, rfl, rfl, rfl, rfl, trivial⟩) | (rw [if_neg (by omega)]; exact ⟨rfl, rfl, rfl, rfl, rfl, trivial⟩))
              · skip
                refine R_aload_n dX9_part_155 rfl rfl rfl ?_
                refine R_cV0 0 dX9_part_156 rfl cv_X9_159 mh_get0 rfl rfl (Nat.le_of_ble_eq_true rfl) (Nat.zero_le _) (sp_X9_number hI hb (by omega) (by omega) (kq.v ?_))
                refine R_goto dX9_part_159 (tgt := 163) (by decide) ?_
                refine R_istore dX9_part_163 (by decide) rfl rfl ?_
                exact js_143 _ _ (by unfold p4A p4W; first | (rw [if_pos (by omega), if_pos (by omega)]; done) | (rw [if_neg (by omega), if_neg (by omega)]; done)) (by unfold p4V; first | (rw [if_pos (by omega)]; exact ⟨rfl, rfl, rfl, rfl, rfl, trivial⟩) | (rw [if_neg (by omega)]; exact ⟨rfl, rfl, rfl, rfl, rfl, trivial⟩))
        · skip
          refine R_iload_n dX9_part_123 rfl rfl ?_
          refine R_bipush dX9_part_124 (v := zI (111)) rfl ?_
          refine Z_icmp_ne dX9_part_126 (by first | exact hI.1 _ | assumption | exact hI1.1 _ | exact hI2.1 _ | exact ⟨by omega, by omega⟩) (by first | exact hI.1 _ | assumption | exact hI1.1 _ | exact hI2.1 _ | exact ⟨by omega, by omega⟩) (tgt := 140) (by decide) (fun c_126 => ?_) (fun c_126 => ?_)
          · skip
            refine R_iconst dX9_part_140 (v := zI (0)) rfl ?_
            refine R_istore dX9_part_141 (by decide) rfl rfl ?_
            exact js_123 _ _ (by unfold p3A p3W; first | (rw [if_pos (by omega), if_pos (by omega)]; done) | (rw [if_neg (by omega), if_neg (by omega)]; done)) ⟨rfl, rfl, rfl, rfl, trivial⟩
          · skip
            refine R_aload_n dX9_part_129 rfl rfl rfl ?_
            refine R_bipush dX9_part_130 (v := zI (62)) rfl ?_
            refine R_bipush dX9_part_132 (v := zI (62)) rfl ?_
            refine R_cV2 0 dX9_part_134 rfl cv_X9_156 mh_get0 rfl rfl (Nat.le_of_ble_eq_true rfl) (Nat.zero_le _) (sp_X9_sign hI (by omega) (by omega) (by decide) (by decide) (kq.v ?_))
            refine R_goto dX9_part_137 (tgt := 141) (by decide) ?_
            refine R_istore dX9_part_141 (by decide) rfl rfl ?_
            exact js_123 _ _ (by unfold p3A p3W; first | (rw [if_pos (by omega), if_pos (by omega)]; done) | (rw [if_neg (by omega), if_neg (by omega)]; done)) ⟨rfl, rfl, rfl, rfl, trivial⟩
      · skip
        refine R_iload_n dX9_part_95 rfl rfl ?_
        refine R_bipush dX9_part_96 (v := zI (111)) rfl ?_
        refine Z_icmp_eq dX9_part_98 (by first | exact hI.1 _ | assumption | exact hI1.1 _ | exact hI2.1 _ | exact ⟨by omega, by omega⟩) (by first | exact hI.1 _ | assumption | exact hI1.1 _ | exact hI2.1 _ | exact ⟨by omega, by omega⟩) (tgt := 107) (by decide) (fun c_98 => ?_) (fun c_98 => ?_)
        · skip
          refine R_aload_n dX9_part_107 rfl rfl rfl ?_
          refine R_bipush dX9_part_108 (v := zI (48)) rfl ?_
          refine R_bipush dX9_part_110 (v := zI (51)) rfl ?_
          refine R_cV2 0 dX9_part_112 rfl cv_X9_156 mh_get0 rfl rfl (Nat.le_of_ble_eq_true rfl) (Nat.zero_le _) (sp_X9_sign hI (by omega) (by omega) (by decide) (by decide) (kq.v ?_))
          refine R_bipush dX9_part_115 (v := zI (48)) rfl ?_
          refine Z_isub dX9_part_117 ?_
          refine R_goto dX9_part_118 (tgt := 122) (by decide) ?_
          refine R_istore_n dX9_part_122 rfl (by decide) rfl rfl ?_
          exact js_95 _ _ (by unfold p2A p2W; first | (rw [if_pos (by omega), if_pos (by omega)]; done) | (rw [if_neg (by omega), if_neg (by omega)]; done)) (by unfold p2V; first | (rw [if_pos (by omega)]; exact ⟨rfl, rfl, rfl, rfl, trivial⟩) | (rw [if_neg (by omega)]; exact ⟨rfl, rfl, rfl, rfl, trivial⟩))
        · skip
          refine R_iload_n dX9_part_101 rfl rfl ?_
          refine R_bipush dX9_part_102 (v := zI (115)) rfl ?_
          refine Z_icmp_ne dX9_part_104 (by first | exact hI.1 _ | assumption | exact hI1.1 _ | exact hI2.1 _ | exact ⟨by omega, by omega⟩) (by first | exact hI.1 _ | assumption | exact hI1.1 _ | exact hI2.1 _ | exact ⟨by omega, by omega⟩) (tgt := 121) (by decide) (fun c_104 => ?_) (fun c_104 => ?_)
          · skip
            refine R_iconst dX9_part_121 (v := zI (0)) rfl ?_
            refine R_istore_n dX9_part_122 rfl (by decide) rfl rfl ?_
            exact js_95 _ _ (by unfold p2A p2W; first | (rw [if_pos (by omega), if_pos (by omega)]; done) | (rw [if_neg (by omega), if_neg (by omega)]; done)) (by unfold p2V; first | (rw [if_pos (by omega)]; exact ⟨rfl, rfl, rfl, rfl, trivial⟩) | (rw [if_neg (by omega)]; exact ⟨rfl, rfl, rfl, rfl, trivial⟩))
          · skip
            refine R_aload_n dX9_part_107 rfl rfl rfl ?_
            refine R_bipush dX9_part_108 (v := zI (48)) rfl ?_
            refine R_bipush dX9_part_110 (v := zI (51)) rfl ?_
            refine R_cV2 0 dX9_part_112 rfl cv_X9_156 mh_get0 rfl rfl (Nat.le_of_ble_eq_true rfl) (Nat.zero_le _) (sp_X9_sign hI (by omega) (by omega) (by decide) (by decide) (kq.v ?_))
            refine R_bipush dX9_part_115 (v := zI (48)) rfl ?_
            refine Z_isub dX9_part_117 ?_
            refine R_goto dX9_part_118 (tgt := 122) (by decide) ?_
            refine R_istore_n dX9_part_122 rfl (by decide) rfl rfl ?_
            exact js_95 _ _ (by unfold p2A p2W; first | (rw [if_pos (by omega), if_pos (by omega)]; done) | (rw [if_neg (by omega), if_neg (by omega)]; done)) (by unfold p2V; first | (rw [if_pos (by omega)]; exact ⟨rfl, rfl, rfl, rfl, trivial⟩) | (rw [if_neg (by omega)]; exact ⟨rfl, rfl, rfl, rfl, trivial⟩))
    · skip
      refine R_aload_n dX9_part_26 rfl rfl rfl ?_
      refine Zm_gf dX9_part_27 gf_X9_152 rfl ?_
      rw [ps_5]
      refine Z_if_ne dX9_part_30 (by first | exact hI.1 _ | assumption | exact hI1.1 _ | exact hI2.1 _ | exact ⟨by omega, by omega⟩) (tgt := 57) (by decide) (fun c_30 => ?_) (fun c_30 => ?_)
      · skip
        refine R_iconst dX9_part_57 (v := zI (1)) rfl ?_
        refine R_goto dX9_part_58 (tgt := 62) (by decide) ?_
        exact jj_26 _ (by first | (rw [if_pos (by omega)]; done) | (rw [if_neg (by omega)]; done))
      · skip
        refine R_iload_n dX9_part_33 rfl rfl ?_
        refine R_bipush dX9_part_34 (v := zI (111)) rfl ?_
        refine Z_icmp_eq dX9_part_36 (by first | exact hI.1 _ | assumption | exact hI1.1 _ | exact hI2.1 _ | exact ⟨by omega, by omega⟩) (by first | exact hI.1 _ | assumption | exact hI1.1 _ | exact hI2.1 _ | exact ⟨by omega, by omega⟩) (tgt := 61) (by decide) (fun c_36 => ?_) (fun c_36 => ?_)
        · skip
          refine R_iconst dX9_part_61 (v := zI (0)) rfl ?_
          exact jj_26 _ (by first | (rw [if_pos (by omega)]; done) | (rw [if_neg (by omega)]; done))
        · skip
          refine R_iload_n dX9_part_39 rfl rfl ?_
          refine R_bipush dX9_part_40 (v := zI (115)) rfl ?_
          refine Z_icmp_eq dX9_part_42 (by first | exact hI.1 _ | assumption | exact hI1.1 _ | exact hI2.1 _ | exact ⟨by omega, by omega⟩) (by first | exact hI.1 _ | assumption | exact hI1.1 _ | exact hI2.1 _ | exact ⟨by omega, by omega⟩) (tgt := 61) (by decide) (fun c_42 => ?_) (fun c_42 => ?_)
          · skip
            refine R_iconst dX9_part_61 (v := zI (0)) rfl ?_
            exact jj_26 _ (by first | (rw [if_pos (by omega)]; done) | (rw [if_neg (by omega)]; done))
          · skip
            refine R_iload_n dX9_part_45 rfl rfl ?_
            refine R_bipush dX9_part_46 (v := zI (116)) rfl ?_
            refine Z_icmp_eq dX9_part_48 (by first | exact hI.1 _ | assumption | exact hI1.1 _ | exact hI2.1 _ | exact ⟨by omega, by omega⟩) (by first | exact hI.1 _ | assumption | exact hI1.1 _ | exact hI2.1 _ | exact ⟨by omega, by omega⟩) (tgt := 61) (by decide) (fun c_48 => ?_) (fun c_48 => ?_)
            · skip
              refine R_iconst dX9_part_61 (v := zI (0)) rfl ?_
              exact jj_26 _ (by first | (rw [if_pos (by omega)]; done) | (rw [if_neg (by omega)]; done))
            · skip
              refine R_iload_n dX9_part_51 rfl rfl ?_
              refine R_bipush dX9_part_52 (v := zI (114)) rfl ?_
              refine Z_icmp_eq dX9_part_54 (by first | exact hI.1 _ | assumption | exact hI1.1 _ | exact hI2.1 _ | exact ⟨by omega, by omega⟩) (by first | exact hI.1 _ | assumption | exact hI1.1 _ | exact hI2.1 _ | exact ⟨by omega, by omega⟩) (tgt := 61) (by decide) (fun c_54 => ?_) (fun c_54 => ?_)
              · skip
                refine R_iconst dX9_part_61 (v := zI (0)) rfl ?_
                exact jj_26 _ (by first | (rw [if_pos (by omega)]; done) | (rw [if_neg (by omega)]; done))
              · skip
                refine R_iconst dX9_part_57 (v := zI (1)) rfl ?_
                refine R_goto dX9_part_58 (tgt := 62) (by decide) ?_
                exact jj_26 _ (by first | (rw [if_pos (by omega)]; done) | (rw [if_neg (by omega)]; done))
  · skip
    refine R_aload_n dX9_part_0 rfl rfl rfl ?_
    refine Zm_gf dX9_part_1 gf_X9_149 rfl ?_
    rw [ps_4]
    refine R_aload_n dX9_part_4 rfl rfl rfl ?_
    refine Zm_gf dX9_part_5 gf_X9_146 rfl ?_
    rw [ps_ne (by omega)]
    refine Z_icmp_ge dX9_part_8 (by first | exact hI.1 _ | assumption | exact hI1.1 _ | exact hI2.1 _ | exact ⟨by omega, by omega⟩) (by first | exact hI.1 _ | assumption | exact hI1.1 _ | exact hI2.1 _ | exact ⟨by omega, by omega⟩) (tgt := 23) (by decide) (fun c_8 => ?_) (fun c_8 => ?_)
    · skip
      refine R_iconst dX9_part_23 (v := zI (0)) rfl ?_
      exact jj_0 _ (by rw [← hl]; unfold ltF; first | (rw [if_pos (by omega)]; done) | (rw [if_neg (by omega)]; done))
    · skip
      refine R_aload_n dX9_part_11 rfl rfl rfl ?_
      refine Zm_gf dX9_part_12 gf_X9_19 rfl ?_
      refine R_aload_n dX9_part_15 rfl rfl rfl ?_
      refine Zm_gf dX9_part_16 gf_X9_149 rfl ?_
      rw [ps_4]
      refine Zm_ld4 dX9_part_19 (by omega) ?_
      rw [ps_ne (by omega)]
      refine R_goto dX9_part_20 (tgt := 24) (by decide) ?_
      exact jj_0 _ (by rw [← hl]; unfold ltF; first | (rw [if_pos (by omega)]; done) | (rw [if_neg (by omega)]; done))

