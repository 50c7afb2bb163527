/-! the model is made -/
set_option maxRecDepth 100000
theorem R_mk {Ω : Wd} {M : MD} {d r : Nat} {Q : Hp → Out → Prop} {pc : Nat} {L : List (Option Value)} {S : List Value} {h : Hp} {b i f N : Nat} {vs : List Value} {ty : FieldType} (bud : Nat) (hd : decode M.code pc = .ok (.newarray .int, 2)) (hd1 : decode M.code (pc + 2) = .ok (.putfield i, 3)) (hp : PF M.y.cls i 14 f ty true) (hini : M.y.name = "<init>") (hty : ∀ a : Nat, narrow ty (.ref a) = .ref a ∧ fits ty (.ref a) = true) (ha : h.1 b = some (1, 14, vs)) (hlt : b < h.2) (hN : N ≤ 4 * bud ∧ 1 ≤ bud ∧ N ≤ 100000) (hr : bud ≤ r) (kk : ∀ h' : Hp, h'.2 = h.2 + 1 → h'.1 b = some (1, 14, vs.set f (.ref h.2)) → h'.1 h.2 = some (1, 100, ial N (fun _ => zI 0)) → (∀ q : Nat, q ≠ b → q ≠ h.2 → h'.1 q = h.1 q) → At Ω M d (r - bud) Q (pc + 5) L S h') : At Ω M d r Q pc L (.int (zI (N : Int)) :: .ref b :: S) h := by
  refine R_newarray (i := 0) (j := 0) 1 bud hd q330 rfl (by decide) rfl (fun C z => by cases z) rfl (zI_nI N).symm (by omega) (by omega) hr ?_
  have hne : b ≠ h.2 := by omega
  refine R_putfinal hd1 hp hini (o := (1, 14, vs)) ?_ rfl (hty _).1 (hty _).2 (kk _ rfl ?_ ?_ ?_)
  · show (if b = h.2 then _ else h.1 b) = _
    rw [if_neg hne]; exact ha
  · show (if b = b then _ else _) = _
    rw [if_pos rfl]
  · show (if h.2 = b then _ else if h.2 = h.2 then _ else _) = _
    rw [if_neg (by omega), if_pos rfl]
    show some (1, 100, List.replicate N (Value.int 0)) = _
    rw [ial_new]
    rfl
  · intro q h1 h2
    show (if q = b then _ else if q = h.2 then _ else _) = _
    rw [if_neg h1, if_neg h2]
def iniS : Nat → St
  | 0 => fun _ => 0
  | n + 1 => us (us (us (iniS n) (97 + 5 * (n : Int) + 0) n) (97 + 5 * (n : Int) + 2) (-1)) (97 + 5 * (n : Int) + 4) 1
def ini2 : St := us (us (iniS 4) 166 5) 167 40
noncomputable def iniF : St := notesF ini2
theorem ini2_out {k : Int} (h : k < 97 ∨ 117 ≤ k) (h2 : k ≠ 166 ∧ k ≠ 167) : ini2 k = 0 := by
  unfold ini2
  rw [us_ne h2.2, us_ne h2.1]
  simp only [iniS]
  repeat rw [us_ne (by omega)]
theorem ini2_c {c : Int} (hc : 0 ≤ c ∧ c < 4) : ini2 (97 + 5 * c + 0) = c ∧ ini2 (97 + 5 * c + 1) = 0 ∧ ini2 (97 + 5 * c + 2) = -1 ∧ ini2 (97 + 5 * c + 3) = 0 ∧ ini2 (97 + 5 * c + 4) = 1 := by
  rcases (by omega : c = 0 ∨ c = 1 ∨ c = 2 ∨ c = 3) with e | e | e | e <;> subst e <;> exact ⟨by decide, by decide, by decide, by decide, by decide⟩
theorem ini2_rg (k : Int) : rg (ini2 k) := by
  by_cases h : k < 97 ∨ 117 ≤ k
  · by_cases h6 : k = 166
    · subst h6; decide
    · by_cases h7 : k = 167
      · subst h7; decide
      · rw [ini2_out h ⟨h6, h7⟩]; decide
  · obtain ⟨n, hn, rfl⟩ : ∃ n : Nat, n < 20 ∧ k = 97 + n := ⟨(k - 97).toNat, by omega, by omega⟩
    have : ∀ n : Fin 20, rg (ini2 (97 + ((n.1 : Nat) : Int))) := by decide
    exact this ⟨n, hn⟩
theorem ini2_MI : MI ini2 := by
  refine ⟨ini2_rg, by decide, by decide, by decide, by decide, by decide, ?_, ?_, ?_⟩
  · intro c hc
    obtain ⟨a1, a2, a3, -, -⟩ := ini2_c hc
    rw [a1, a2, a3, ini2_out (by omega) (by omega)]
    omega
  · intro k hk
    rw [ini2_out (by omega) (by omega)] at hk
    omega
  · intro p hp
    rw [ini2_out (k := 117) (by omega) (by omega)] at hp
    omega

theorem lp_ini {Ω : Wd} {d r : Nat} {Q : Hp → Out → Prop} {b : Nat} {h0 : Hp} {σ : St}   : ∀ (k n : Nat), n + k = 4 → At Ω M_X9_init (d + 4) r Q 95 [some (.ref b), none] [] (mh b h0 (iniS 4)) → At Ω M_X9_init (d + 4) r Q 63 [some (.ref b), some (.int (zI (((n : Nat) : Int))))] [] (mh b h0 (iniS n)) := by
  intro k
  induction k with
  | zero =>
    intro n hn hX
    have hnN : n = 4 := by omega
    rw [hnN]
    refine R_iload_n dX9_init_63 rfl rfl ?_
    refine R_iconst dX9_init_64 (v := zI (4)) rfl ?_
    refine Z_icmp_ge dX9_init_65 (by first | exact hI.1 _ | assumption | exact hI1.1 _ | exact hI2.1 _ | exact ⟨by omega, by omega⟩) (by first | exact hI.1 _ | assumption | exact hI1.1 _ | exact hI2.1 _ | exact ⟨by omega, by omega⟩) (tgt := 95) (by decide) (fun c_65 => ?_) (fun c_65 => absurd c_65 (by omega))
    exact At.dropS (L' := [some (.ref b), none]) ⟨rfl, trivial⟩ hX
  | succ k ih =>
    intro n hn hX
    refine R_iload_n dX9_init_63 rfl rfl ?_
    refine R_iconst dX9_init_64 (v := zI (4)) rfl ?_
    refine Z_icmp_ge dX9_init_65 (by first | exact hI.1 _ | assumption | exact hI1.1 _ | exact hI2.1 _ | exact ⟨by omega, by omega⟩) (by first | exact hI.1 _ | assumption | exact hI1.1 _ | exact hI2.1 _ | exact ⟨by omega, by omega⟩) (tgt := 95) (by decide) (fun c_65 => absurd c_65 (by omega)) (fun c_65 => ?_)
    refine R_aload_n dX9_init_68 rfl rfl rfl ?_
    refine R_iload_n dX9_init_69 rfl rfl ?_
    refine R_iconst dX9_init_70 (v := zI (0)) rfl ?_
    refine R_iload_n dX9_init_71 rfl rfl ?_
    refine R_cV3 0 dX9_init_72 rfl cv_X9_31 mh_get0 rfl rfl (Nat.le_of_ble_eq_true rfl) (Nat.zero_le _) (sp_X9_lay (by first | assumption | exact hI.1 _ | exact hI1.1 _ | exact hI2.1 _ | omega | (refine ⟨?_, ?_⟩ <;> omega)) (kq.n ?_))
    refine R_aload_n dX9_init_75 rfl rfl rfl ?_
    refine R_iload_n dX9_init_76 rfl rfl ?_
    refine R_iconst dX9_init_77 (v := zI (2)) rfl ?_
    refine R_iconst dX9_init_78 (v := zI (-1)) rfl ?_
    refine R_cV3 0 dX9_init_79 rfl cv_X9_31 mh_get0 rfl rfl (Nat.le_of_ble_eq_true rfl) (Nat.zero_le _) (sp_X9_lay (by first | assumption | exact hI.1 _ | exact hI1.1 _ | exact hI2.1 _ | omega | (refine ⟨?_, ?_⟩ <;> omega)) (kq.n ?_))
    refine R_aload_n dX9_init_82 rfl rfl rfl ?_
    refine R_iload_n dX9_init_83 rfl rfl ?_
    refine R_iconst dX9_init_84 (v := zI (4)) rfl ?_
    refine R_iconst dX9_init_85 (v := zI (1)) rfl ?_
    refine R_cV3 0 dX9_init_86 rfl cv_X9_31 mh_get0 rfl rfl (Nat.le_of_ble_eq_true rfl) (Nat.zero_le _) (sp_X9_lay (by first | assumption | exact hI.1 _ | exact hI1.1 _ | exact hI2.1 _ | omega | (refine ⟨?_, ?_⟩ <;> omega)) (kq.n ?_))
    refine Z_iinc dX9_init_89 rfl (by decide) rfl rfl ?_
    refine R_goto dX9_init_92 (tgt := 63) (by decide) ?_
    exact At.dropS (L' := [some (.ref b), some (.int (zI ((((n + 1) : Nat) : Int))))]) ⟨rfl, rfl, trivial⟩ (ih (n + 1) (by omega) hX)

theorem ini_mh {b : Nat} {h a1 a2 a3 a4 a5 a6 a7 : Hp} (h2 : h.2 = b + 1) (s1 : a1.2 = h.2 + 1) (t1 : a1.1 b = some (1, 14, ([.null, .null, .int (zI 0), .null, .int (zI 0), .null, .int (zI 0), .int (zI 0), .null, .null, .int (zI 0), .int (zI 0), .null, .long (zL 0)].set 0 (.ref h.2)))) (u1 : a1.1 h.2 = some (1, 100, ial 299 (fun _ => zI 0))) (v1 : ∀ q : Nat, q ≠ b → q ≠ h.2 → a1.1 q = h.1 q) (s2 : a2.2 = a1.2 + 1) (t2 : a2.1 b = some (1, 14, (([.null, .null, .int (zI 0), .null, .int (zI 0), .null, .int (zI 0), .int (zI 0), .null, .null, .int (zI 0), .int (zI 0), .null, .long (zL 0)].set 0 (.ref h.2)).set 1 (.ref a1.2)))) (u2 : a2.1 a1.2 = some (1, 100, ial 1495 (fun _ => zI 0))) (v2 : ∀ q : Nat, q ≠ b → q ≠ a1.2 → a2.1 q = a1.1 q) (s3 : a3.2 = a2.2 + 1) (t3 : a3.1 b = some (1, 14, ((([.null, .null, .int (zI 0), .null, .int (zI 0), .null, .int (zI 0), .int (zI 0), .null, .null, .int (zI 0), .int (zI 0), .null, .long (zL 0)].set 0 (.ref h.2)).set 1 (.ref a1.2)).set 3 (.ref a2.2)))) (u3 : a3.1 a2.2 = some (1, 100, ial 299 (fun _ => zI 0))) (v3 : ∀ q : Nat, q ≠ b → q ≠ a2.2 → a3.1 q = a2.1 q) (s4 : a4.2 = a3.2 + 1) (t4 : a4.1 b = some (1, 14, (((([.null, .null, .int (zI 0), .null, .int (zI 0), .null, .int (zI 0), .int (zI 0), .null, .null, .int (zI 0), .int (zI 0), .null, .long (zL 0)].set 0 (.ref h.2)).set 1 (.ref a1.2)).set 3 (.ref a2.2)).set 5 (.ref a3.2)))) (u4 : a4.1 a3.2 = some (1, 100, ial 60 (fun _ => zI 0))) (v4 : ∀ q : Nat, q ≠ b → q ≠ a3.2 → a4.1 q = a3.1 q) (s5 : a5.2 = a4.2 + 1) (t5 : a5.1 b = some (1, 14, ((((([.null, .null, .int (zI 0), .null, .int (zI 0), .null, .int (zI 0), .int (zI 0), .null, .null, .int (zI 0), .int (zI 0), .null, .long (zL 0)].set 0 (.ref h.2)).set 1 (.ref a1.2)).set 3 (.ref a2.2)).set 5 (.ref a3.2)).set 8 (.ref a4.2)))) (u5 : a5.1 a4.2 = some (1, 100, ial 4 (fun _ => zI 0))) (v5 : ∀ q : Nat, q ≠ b → q ≠ a4.2 → a5.1 q = a4.1 q) (s6 : a6.2 = a5.2 + 1) (t6 : a6.1 b = some (1, 14, (((((([.null, .null, .int (zI 0), .null, .int (zI 0), .null, .int (zI 0), .int (zI 0), .null, .null, .int (zI 0), .int (zI 0), .null, .long (zL 0)].set 0 (.ref h.2)).set 1 (.ref a1.2)).set 3 (.ref a2.2)).set 5 (.ref a3.2)).set 8 (.ref a4.2)).set 9 (.ref a5.2)))) (u6 : a6.1 a5.2 = some (1, 100, ial 4 (fun _ => zI 0))) (v6 : ∀ q : Nat, q ≠ b → q ≠ a5.2 → a6.1 q = a5.1 q) (s7 : a7.2 = a6.2 + 1) (t7 : a7.1 b = some (1, 14, ((((((([.null, .null, .int (zI 0), .null, .int (zI 0), .null, .int (zI 0), .int (zI 0), .null, .null, .int (zI 0), .int (zI 0), .null, .long (zL 0)].set 0 (.ref h.2)).set 1 (.ref a1.2)).set 3 (.ref a2.2)).set 5 (.ref a3.2)).set 8 (.ref a4.2)).set 9 (.ref a5.2)).set 12 (.ref a6.2)))) (u7 : a7.1 a6.2 = some (1, 100, ial 10 (fun _ => zI 0))) (v7 : ∀ q : Nat, q ≠ b → q ≠ a6.2 → a7.1 q = a6.1 q) : a7 = mh b (h.1, b + 8) (iniS 0) := by
  have z1 : a1.2 = b + 2 := by omega
  have z2 : a2.2 = b + 3 := by omega
  have z3 : a3.2 = b + 4 := by omega
  have z4 : a4.2 = b + 5 := by omega
  have z5 : a5.2 = b + 6 := by omega
  have z6 : a6.2 = b + 7 := by omega
  have z7 : a7.2 = b + 8 := by omega
  rw [h2] at u1 v1 t7
  rw [z1] at u2 v2 t7
  rw [z2] at u3 v3 t7
  rw [z3] at u4 v4 t7
  rw [z4] at u5 v5 t7
  rw [z5] at u6 v6 t7
  rw [z6] at u7 v7 t7
  refine Prod.ext (funext fun q => ?_) z7
  by_cases hq : q < b ∨ b + 8 ≤ q
  · rw [mh_out hq, v7 q (by omega) (by omega), v6 q (by omega) (by omega), v5 q (by omega) (by omega), v4 q (by omega) (by omega), v3 q (by omega) (by omega), v2 q (by omega) (by omega), v1 q (by omega) (by omega)]
  · rcases (by omega : q = b ∨ q = b + 1 ∨ q = b + 2 ∨ q = b + 3 ∨ q = b + 4 ∨ q = b + 5 ∨ q = b + 6 ∨ q = b + 7) with e | e | e | e | e | e | e | e <;> subst e
    · rw [mh_get0, t7]
      rfl
    · rw [mh_get (j := 1) (by decide), v7 (b + 1) (by omega) (by omega), v6 (b + 1) (by omega) (by omega), v5 (b + 1) (by omega) (by omega), v4 (b + 1) (by omega) (by omega), v3 (b + 1) (by omega) (by omega), v2 (b + 1) (by omega) (by omega), u1]
      rfl
    · rw [mh_get (j := 2) (by decide), v7 (b + 2) (by omega) (by omega), v6 (b + 2) (by omega) (by omega), v5 (b + 2) (by omega) (by omega), v4 (b + 2) (by omega) (by omega), v3 (b + 2) (by omega) (by omega), u2]
      rfl
    · rw [mh_get (j := 3) (by decide), v7 (b + 3) (by omega) (by omega), v6 (b + 3) (by omega) (by omega), v5 (b + 3) (by omega) (by omega), v4 (b + 3) (by omega) (by omega), u3]
      rfl
    · rw [mh_get (j := 4) (by decide), v7 (b + 4) (by omega) (by omega), v6 (b + 4) (by omega) (by omega), v5 (b + 4) (by omega) (by omega), u4]
      rfl
    · rw [mh_get (j := 5) (by decide), v7 (b + 5) (by omega) (by omega), v6 (b + 5) (by omega) (by omega), u5]
      rfl
    · rw [mh_get (j := 6) (by decide), v7 (b + 6) (by omega) (by omega), u6]
      rfl
    · rw [mh_get (j := 7) (by decide), u7]
      rfl
theorem sp_X9_init {Ω : Wd} {d r : Nat} {Q : Hp → Out → Prop} {b : Nat} {h : Hp} (hb : h.1 b = some (1, 14, [.null, .null, .int (zI 0), .null, .int (zI 0), .null, .int (zI 0), .int (zI 0), .null, .null, .int (zI 0), .int (zI 0), .null, .long (zL 0)])) (h2 : h.2 = b + 1) (hr : 600 ≤ r) (hQ : Q (mh b (h.1, b + 8) iniF) (.inl none)) : Ok Ω M_X9_init (d + 4) r [.ref b] h Q := by
  refine Ok.of (by decide) rfl (Nat.le_of_ble_eq_true rfl) rfl ?_
  have hty : ∀ f, f < 14 → f ≠ 2 → f ≠ 4 → f ≠ 6 → f ≠ 7 → f ≠ 10 → f ≠ 11 → f ≠ 13 → ∀ a : Nat, narrow (tyX9 f) (.ref a) = .ref a ∧ fits (tyX9 f) (.ref a) = true := by
    intro f h1 h2 h3 h4 h5 h6 h7 h8 a
    rcases (by omega : f = 0 ∨ f = 1 ∨ f = 3 ∨ f = 5 ∨ f = 8 ∨ f = 9 ∨ f = 12) with e | e | e | e | e | e | e <;> subst e <;> exact ⟨rfl, rfl⟩
  refine R_aload_n dX9_init_0 rfl rfl rfl ?_
  refine R_objInit dX9_init_1 oi_X9_1 q158 q159 (Nat.le_of_ble_eq_true rfl) ?_
  refine R_aload_n dX9_init_4 rfl rfl rfl ?_
  refine R_sipush dX9_init_5 (v := zI (299)) rfl ?_
  refine R_mk (N := 299) (f := 0) 75 dX9_init_8 dX9_init_10 pf_X9_7 rfl (hty 0 (by decide) (by decide) (by decide) (by decide) (by decide) (by decide) (by decide) (by decide)) hb (by omega) (by decide) (by omega) (fun a1 s1 t1 u1 v1 => ?_)
  skip
  refine R_aload_n dX9_init_13 rfl rfl rfl ?_
  refine R_sipush dX9_init_14 (v := zI (1495)) rfl ?_
  refine R_mk (N := 1495) (f := 1) 374 dX9_init_17 dX9_init_19 pf_X9_13 rfl (hty 1 (by decide) (by decide) (by decide) (by decide) (by decide) (by decide) (by decide) (by decide)) t1 (by omega) (by decide) (by omega) (fun a2 s2 t2 u2 v2 => ?_)
  skip
  refine R_aload_n dX9_init_22 rfl rfl rfl ?_
  refine R_sipush dX9_init_23 (v := zI (299)) rfl ?_
  refine R_mk (N := 299) (f := 3) 75 dX9_init_26 dX9_init_28 pf_X9_16 rfl (hty 3 (by decide) (by decide) (by decide) (by decide) (by decide) (by decide) (by decide) (by decide)) t2 (by omega) (by decide) (by omega) (fun a3 s3 t3 u3 v3 => ?_)
  skip
  refine R_aload_n dX9_init_31 rfl rfl rfl ?_
  refine R_bipush dX9_init_32 (v := zI (60)) rfl ?_
  refine R_mk (N := 60) (f := 5) 15 dX9_init_34 dX9_init_36 pf_X9_19 rfl (hty 5 (by decide) (by decide) (by decide) (by decide) (by decide) (by decide) (by decide) (by decide)) t3 (by omega) (by decide) (by omega) (fun a4 s4 t4 u4 v4 => ?_)
  skip
  refine R_aload_n dX9_init_39 rfl rfl rfl ?_
  refine R_iconst dX9_init_40 (v := zI (4)) rfl ?_
  refine R_mk (N := 4) (f := 8) 1 dX9_init_41 dX9_init_43 pf_X9_22 rfl (hty 8 (by decide) (by decide) (by decide) (by decide) (by decide) (by decide) (by decide) (by decide)) t4 (by omega) (by decide) (by omega) (fun a5 s5 t5 u5 v5 => ?_)
  skip
  refine R_aload_n dX9_init_46 rfl rfl rfl ?_
  refine R_iconst dX9_init_47 (v := zI (4)) rfl ?_
  refine R_mk (N := 4) (f := 9) 1 dX9_init_48 dX9_init_50 pf_X9_25 rfl (hty 9 (by decide) (by decide) (by decide) (by decide) (by decide) (by decide) (by decide) (by decide)) t5 (by omega) (by decide) (by omega) (fun a6 s6 t6 u6 v6 => ?_)
  skip
  refine R_aload_n dX9_init_53 rfl rfl rfl ?_
  refine R_bipush dX9_init_54 (v := zI (10)) rfl ?_
  refine R_mk (N := 10) (f := 12) 3 dX9_init_56 dX9_init_58 pf_X9_28 rfl (hty 12 (by decide) (by decide) (by decide) (by decide) (by decide) (by decide) (by decide) (by decide)) t6 (by omega) (by decide) (by omega) (fun a7 s7 t7 u7 v7 => ?_)
  skip
  have hm : a7 = mh b (h.1, b + 8) (iniS 0) := ini_mh h2 s1 t1 u1 v1 s2 t2 u2 v2 s3 t3 u3 v3 s4 t4 u4 v4 s5 t5 u5 v5 s6 t6 u6 v6 s7 t7 u7 v7
  rw [hm]
  refine R_iconst dX9_init_61 (v := zI (0)) rfl ?_
  refine R_istore_n dX9_init_62 rfl (by decide) rfl rfl ?_
  refine At.dropS (L' := [some (.ref b), some (.int (zI (((0 : Nat) : Int))))]) ⟨rfl, rfl, trivial⟩ (lp_ini (σ := fun _ => 0) _ 0 (Nat.zero_add _) ?_)
  refine R_aload_n dX9_init_95 rfl rfl rfl ?_
  refine Zm_gf dX9_init_96 gf_X9_7 rfl ?_
  refine R_sipush dX9_init_99 (v := zI (166)) rfl ?_
  refine R_iconst dX9_init_102 (v := zI (5)) rfl ?_
  refine Zm_st1 dX9_init_103 (by omega) ?_
  refine R_aload_n dX9_init_104 rfl rfl rfl ?_
  refine Zm_gf dX9_init_105 gf_X9_7 rfl ?_
  refine R_sipush dX9_init_108 (v := zI (167)) rfl ?_
  refine R_bipush dX9_init_111 (v := zI (40)) rfl ?_
  refine Zm_st1 dX9_init_113 (by omega) ?_
  show At Ω _ _ _ _ _ _ _ (mh b _ ini2)
  refine R_aload_n dX9_init_114 rfl rfl rfl ?_
  refine R_cV0 0 dX9_init_115 rfl cv_X9_35 mh_get0 rfl rfl (Nat.le_of_ble_eq_true rfl) (Nat.zero_le _) (sp_X9_notes ini2_MI (by decide) (kq.n ?_))
  refine Z_retV dX9_init_118 (rf_v rfl) ?_
  exact hQ


