/-! what the looks depend on: the row s alone -/
set_option maxRecDepth 100000
/-- the row s is the same -/
abbrev eqs (σ τ : St) : Prop := ∀ x : Int, 0 ≤ x ∧ x < 300 → τ x = σ x
theorem loadS_cg {σ τ : St} (h : eqs σ τ) (c : Int) : ∀ n : Nat, n ≤ 8 → loadS τ c n = loadS σ c n
  | 0, _ => rfl
  | n + 1, hn => by
    unfold loadS
    rw [loadS_cg h c n (by omega), h _ (by omega), h _ (by omega), h _ (by omega)]
theorem loadF_cg {σ τ : St} (h : eqs σ τ) (hI : MI σ) (c : Int) : loadF τ c = loadF σ c := by
  have h117 := hI.2.2.1
  unfold loadF
  rw [h 117 (by omega)]
  exact loadS_cg h c _ (by omega)
theorem codedF_cg {σ τ : St} (h : eqs σ τ) {p : Int} (hp : 0 ≤ p ∧ p < 8) : codedF τ p = codedF σ p := by
  unfold codedF
  rw [h 117 (by omega), h _ (by omega), h _ (by omega), h _ (by omega)]
theorem firA_cg {σ τ : St} (h : eqs σ τ) : ∀ n : Nat, n ≤ 4 → firA τ n = firA σ n
  | 0, _ => rfl
  | n + 1, hn => by
    unfold firA
    rw [firA_cg h n (by omega), h _ (by omega)]
theorem firB_cg {σ τ : St} (h : eqs σ τ) : ∀ n : Nat, n ≤ 4 → firB τ n = firB σ n
  | 0, _ => firA_cg h 4 (by omega)
  | n + 1, hn => by
    unfold firB
    rw [firB_cg h n (by omega), codedF_cg h (by omega)]
theorem secS_cg {σ τ : St} (h : eqs σ τ) : ∀ n : Nat, n ≤ 4 → secS τ n = secS σ n
  | 0, _ => rfl
  | n + 1, hn => by
    unfold secS
    rw [secS_cg h n (by omega), codedF_cg h (by omega)]
theorem firF_cg {σ τ : St} (h : eqs σ τ) : firF τ = firF σ := firB_cg h 4 (by omega)
theorem secF_cg {σ τ : St} (h : eqs σ τ) : secF τ = secF σ := secS_cg h 4 (by omega)
theorem timS_cg {σ τ : St} (h : eqs σ τ) (x y : Int) : ∀ n : Nat, n ≤ 61 → timS τ x y n = timS σ x y n
  | 0, _ => rfl
  | n + 1, hn => by
    unfold timS
    rw [timS_cg h x y n (by omega), h _ (by omega), h _ (by omega)]
theorem timF_cg {σ τ : St} (h : eqs σ τ) (hI : MI σ) (x y : Int) : timF τ x y = timF σ x y := by
  have h174 := hI.2.2.2.1
  unfold timF
  rw [h 174 (by omega)]
  exact timS_cg h x y _ (by omega)
theorem newS_cg {σ τ : St} (h : eqs σ τ) {k : Int} (hk : 0 ≤ k ∧ k < 61) : ∀ n : Nat, n ≤ 61 → (newS τ k n ↔ newS σ k n)
  | 0, _ => Iff.rfl
  | n + 1, hn => by
    unfold newS
    rw [newS_cg h hk n (by omega), h _ (by omega), h _ (by omega), h _ (by omega), h _ (by omega)]
theorem unlS_cg {σ τ : St} (h : eqs σ τ) : ∀ n : Nat, n ≤ 61 → unlS τ n = unlS σ n
  | 0, _ => rfl
  | n + 1, hn => by
    unfold unlS
    rw [unlS_cg h n (by omega), b2i_iff (newS_cg h (by omega) n (by omega))]
theorem unlF_cg {σ τ : St} (h : eqs σ τ) (hI : MI σ) : unlF τ = unlF σ := by
  have h174 := hI.2.2.2.1
  unfold unlF
  rw [h 174 (by omega)]
  exact unlS_cg h _ (by omega)
theorem allS_cg {σ τ : St} (h : eqs σ τ) : ∀ n : Nat, n ≤ 8 → (allS τ n ↔ allS σ n)
  | 0, _ => by
    unfold allS
    rw [h 117 (by omega)]
  | n + 1, hn => by
    unfold allS
    rw [allS_cg h n (by omega), h _ (by omega)]
theorem overF_cg {σ τ : St} (h : eqs σ τ) (hI : MI σ) : overF τ = overF σ := by
  have h117 := hI.2.2.1
  unfold overF
  rw [firF_cg h, secF_cg h, timF_cg h hI, h 167 (by omega), h 168 (by omega)]
  refine pif_iff ?_
  unfold allF
  rw [h 117 (by omega)]
  exact allS_cg h _ (by omega)
theorem noOrdF_cg {σ τ : St} (h : eqs σ τ) (hI : MI σ) {c k : Int} (hc : 0 ≤ c ∧ c < 4) (hk : 0 ≤ k ∧ k < 24) : noOrdF τ c k = noOrdF σ c k := by
  unfold noOrdF
  rw [overF_cg h hI, h _ (by omega), h _ (by omega), h _ (by omega), h _ (by omega), h _ (by omega)]
theorem carF_cg {σ τ : St} (h : eqs σ τ) {c : Int} (hc : 0 ≤ c ∧ c < 4) : carF τ c = carF σ c := by
  unfold carF
  rw [h _ (by omega), h 166 (by omega)]
theorem dnS_cg {σ τ : St} (h : eqs σ τ) : ∀ n : Nat, n ≤ 8 → dnS τ n = dnS σ n
  | 0, _ => rfl
  | n + 1, hn => by
    unfold dnS
    rw [dnS_cg h n (by omega), h _ (by omega)]
theorem shareF_cg {σ τ : St} (h : eqs σ τ) (hI : MI σ) : shareF τ = shareF σ := by
  have h117 := hI.2.2.1
  rw [shareF_def, shareF_def, h 117 (by omega), dnS_cg h _ (by omega)]
theorem meanF_cg {σ τ : St} (h : eqs σ τ) (hI : MI σ) : meanF τ = meanF σ := by
  rw [meanF_def, meanF_def, loadF_cg h hI, loadF_cg h hI, loadF_cg h hI, loadF_cg h hI]
theorem canK_cg {σ τ : St} (h : eqs σ τ) {q k : Int} (hq : 0 ≤ q ∧ q < 4) (hk : 0 ≤ k ∧ k < 24) : canK τ q k ↔ canK σ q k := by
  unfold canK
  rw [h _ (by omega), h _ (by omega), h _ (by omega)]
/-- s and far are the same -/
abbrev eqsf (σ τ : St) : Prop := eqs σ τ ∧ ∀ x : Int, 730 ≤ x ∧ x < 740 → τ x = σ x
theorem eqs_MI {σ τ : St} (h : eqs σ τ) (hI : MI σ) : (∀ k : Int, 0 ≤ k ∧ k < σ 0 → (0 ≤ σ (1 + 4 * k) ∧ σ (1 + 4 * k) < 10) ∧ (0 ≤ σ (1 + 4 * k + 1) ∧ σ (1 + 4 * k + 1) < 10)) := fun k hk => ⟨(hI.2.2.2.2.2.2.2.1 k hk).1, (hI.2.2.2.2.2.2.2.1 k hk).2.1⟩
theorem us_cg {σ τ : St} {i v : Int} {P : Int → Prop} (h : ∀ x, P x → τ x = σ x) : ∀ x, P x → us τ i v x = us σ i v x := by
  intro x hx
  unfold us
  split
  · rfl
  · exact h x hx
theorem spr1_cg {σ τ : St} (h : eqsf σ τ) (hI : MI σ) {q k s : Int} (hq : 0 ≤ q ∧ q < 4) (hk : 0 ≤ k ∧ k < σ 0) : eqsf (spr1 σ q k s) (spr1 τ q k s) := by
  have h0 := hI.2.1
  have h8 := hI.2.2.2.2.2.2.2.1 k hk
  have e1 : τ (1 + 4 * k) = σ (1 + 4 * k) := h.1 _ (by omega)
  have e2 : τ (1 + 4 * k + 1) = σ (1 + 4 * k + 1) := h.1 _ (by omega)
  have e3 : τ (1 + 4 * k + 2) = σ (1 + 4 * k + 2) := h.1 _ (by omega)
  have e4 : τ (1 + 4 * k + 3) = σ (1 + 4 * k + 3) := h.1 _ (by omega)
  have e5 : τ (97 + 5 * q + 1) = σ (97 + 5 * q + 1) := h.1 _ (by omega)
  have e6 : τ (730 + σ (1 + 4 * k)) = σ (730 + σ (1 + 4 * k)) := h.2 _ (by omega)
  have e7 : τ (730 + σ (1 + 4 * k + 1)) = σ (730 + σ (1 + 4 * k + 1)) := h.2 _ (by omega)
  unfold spr1 canK
  rw [e1, e2, e3, e4, e5, e6, e7]
  split
  · exact ⟨us_cg h.1, us_cg h.2⟩
  · exact h
theorem sprK_cg {σ τ : St} (h : eqsf σ τ) (hI : MI σ) (hf : fR σ) {q s : Int} (hq : 0 ≤ q ∧ q < 4) (hs : 0 ≤ s ∧ s < 10) : ∀ n : Nat, (n : Int) ≤ σ 0 → eqsf (sprK σ q s n) (sprK τ q s n)
  | 0, _ => h
  | n + 1, hn => by
    obtain ⟨⟨a1, -⟩, a3⟩ := sprK_inv hI hf (q := q) hs n (by omega)
    exact spr1_cg (sprK_cg h hI hf hq hs n (by omega)) a1 hq (by rw [a3 0 (by omega)]; omega)
theorem sprS_cg {σ τ : St} (h : eqsf σ τ) (hI : MI σ) (hf : fR σ) {q : Int} (hq : 0 ≤ q ∧ q < 4) : ∀ n : Nat, n ≤ 10 → eqsf (sprS σ q n) (sprS τ q n)
  | 0, _ => h
  | n + 1, hn => by
    have ih := sprS_cg h hI hf hq n (by omega)
    obtain ⟨⟨a1, a2⟩, a3⟩ := sprS_inv hI hf (q := q) n (by omega)
    have h0 := a1.2.1
    unfold sprS
    rw [ih.1 0 (by omega)]
    exact sprK_cg ih a1 a2 hq (by omega) _ (by omega)
theorem sprF_cg {σ τ : St} (h : eqs σ τ) (hI : MI σ) {q j : Int} (hq : 0 ≤ q ∧ q < 4) : eqsf (sprF σ q j) (sprF τ q j) := by
  rw [sprF_def, sprF_def]
  refine sprS_cg ⟨fun x hx => ?_, fun x hx => ?_⟩ (sprI_MI hI j 10 (by omega)) (fun k hk => ?_) hq 10 (by omega)
  · rw [sprI_out 10 (by omega) (by omega), sprI_out 10 (by omega) (by omega)]
    exact h x hx
  · rw [show x = 730 + (x - 730) by omega, sprI_at 10 _ (by omega), sprI_at 10 _ (by omega)]
  · rw [sprI_at 10 k (by omega)]
    split <;> omega
theorem farF_cg {σ τ : St} (h : eqs σ τ) (hI : MI σ) {q j x : Int} (hq : 0 ≤ q ∧ q < 4) (hx : 0 ≤ x ∧ x < 10) : farF τ q j x = farF σ q j x := (sprF_cg h hI hq).2 _ (by omega)
theorem mskS_cg {σ τ : St} (h : ∀ x : Int, 730 ≤ x ∧ x < 740 → τ x = σ x) : ∀ n : Nat, n ≤ 10 → mskS τ n = mskS σ n
  | 0, _ => rfl
  | n + 1, hn => by
    unfold mskS
    rw [mskS_cg h n (by omega), h _ (by omega)]
theorem reachF_cg {σ τ : St} (h : eqs σ τ) (hI : MI σ) {q : Int} (hq : 0 ≤ q ∧ q < 4) : reachF τ q = reachF σ q := by
  unfold reachF
  rw [h _ (by omega)]
  exact mskS_cg (sprF_cg h hI hq).2 10 (by omega)
theorem spotF_cg {σ τ : St} (h : eqs σ τ) {p : Int} (hp : 0 ≤ p ∧ p < 8) (hb : σ (118 + 6 * p + 4) = 1 → 0 ≤ σ (118 + 6 * p + 5) ∧ σ (118 + 6 * p + 5) < 4) : spotF τ p = spotF σ p := by
  unfold spotF
  rw [h (118 + 6 * p + 4) (by omega), h (118 + 6 * p + 0) (by omega), h (118 + 6 * p + 5) (by omega), h (118 + 6 * p + 1) (by omega)]
  split
  · rfl
  · split
    · rename_i z
      have := hb z
      rw [h _ (by omega)]
    · rfl

