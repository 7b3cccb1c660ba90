/-! how many savers and partners the reference reads -/
theorem ex_parts0 (tl : Nat → Nat) (m : Mem) : ∀ (fuel n at_ : Nat) (b : Mem), n ≤ 8 → (∃ j, j ≤ 8 ∧ b 2 0 = nI j) → ∃ j, j ≤ 8 ∧ (wX6_readsParts0 tl m fuel n at_ b).2 2 0 = nI j := by
  intro fuel
  induction fuel with
  | zero => exact fun n at_ b _ hb => hb
  | succ fuel ih =>
    intro n at_ b hn hb
    have hb' : ∃ j, j ≤ 8 ∧ (fX6_readsSaver n at_ tl b) 2 0 = nI j := by
      rw [fr_fX6_readsSaver n at_ tl b 2 (by decide) (by decide) (by decide)]; exact hb
    unfold wX6_readsParts0
    by_cases h8 : n = 8
    · simp only [if_pos h8, show ¬ 3 ≤ 0 by decide, if_false]
      repeat' split
      all_goals exact hb
    · simp only [if_neg h8]
      repeat' split
      all_goals first | exact hb | exact hb' | exact ⟨n + 1, by omega, by simp [m2]⟩ | exact ih _ _ _ (by omega) hb'
theorem ex_parts1 (tl : Nat → Nat) (m : Mem) : ∀ (fuel n at_ : Nat) (b : Mem), n ≤ 8 → (∃ j, j ≤ 8 ∧ b 6 0 = nI j) → ∃ j, j ≤ 8 ∧ (wX6_readsParts1 tl m fuel n at_ b).2 6 0 = nI j := by
  intro fuel
  induction fuel with
  | zero => exact fun n at_ b _ hb => hb
  | succ fuel ih =>
    intro n at_ b hn hb
    have hb' : ∃ j, j ≤ 8 ∧ (fX6_readsPartner n at_ tl b) 6 0 = nI j := by
      rw [fr_fX6_readsPartner n at_ tl b 6 (by decide) (by decide)]; exact hb
    unfold wX6_readsParts1
    by_cases h8 : n = 8
    · simp only [if_pos h8, show ¬ 2 ≤ 0 by decide, if_false]
      repeat' split
      all_goals exact hb
    · simp only [if_neg h8]
      repeat' split
      all_goals first | exact hb | exact hb' | exact ⟨n + 1, by omega, by simp [m2]⟩ | exact ih _ _ _ (by omega) hb'
noncomputable def nS (tl : Nat → Nat) (m : Mem) : Nat := (fX6_readsParts0 tl m 2 0).toNatClampNeg
noncomputable def nP (tl : Nat → Nat) (m : Mem) : Nat := (fX6_readsParts1 tl m 6 0).toNatClampNeg
theorem nS_spec (tl : Nat → Nat) (m : Mem) : fX6_readsParts0 tl m 2 0 = nI (nS tl m) ∧ nS tl m ≤ 8 := by
  obtain ⟨j, h1, h2⟩ := ex_parts0 tl m 9 0 0 (m2 m 2 0 (nI 0)) (by decide) ⟨0, by decide, m2_self _ _ _ _⟩
  have h3 : fX6_readsParts0 tl m 2 0 = nI j := h2
  unfold nS
  rw [h3, nI_clamp (by omega)]
  exact ⟨rfl, h1⟩
theorem nP_spec (tl : Nat → Nat) (m : Mem) : fX6_readsParts1 tl m 6 0 = nI (nP tl m) ∧ nP tl m ≤ 8 := by
  obtain ⟨j, h1, h2⟩ := ex_parts1 tl m 9 0 0 (m2 m 6 0 (nI 0)) (by decide) ⟨0, by decide, m2_self _ _ _ _⟩
  have h3 : fX6_readsParts1 tl m 6 0 = nI j := h2
  unfold nP
  rw [h3, nI_clamp (by omega)]
  exact ⟨rfl, h1⟩
theorem hS (tl : Nat → Nat) (m : Mem) : fX6_readsParts0 tl m 2 0 = nI (nS tl m) := (nS_spec tl m).1
theorem lS (tl : Nat → Nat) (m : Mem) : nS tl m ≤ 8 := (nS_spec tl m).2
theorem hP (tl : Nat → Nat) (m : Mem) : fX6_readsParts1 tl m 6 0 = nI (nP tl m) := (nP_spec tl m).1
theorem lP (tl : Nat → Nat) (m : Mem) : nP tl m ≤ 8 := (nP_spec tl m).2
theorem by_congr {b b' : Mem} (h : b 1 = b' 1) (t a : Nat) (tl : Nat → Nat) : rX6_byteAt t a tl b = rX6_byteAt t a tl b' := by
  unfold rX6_byteAt; rw [h]
theorem fg_congr {b b' : Mem} (h : b 1 = b' 1) (t a : Nat) (tl : Nat → Nat) : rX6_figureAt t a tl b = rX6_figureAt t a tl b' := by
  unfold rX6_figureAt; rw [by_congr h]
theorem le_congr {b b' : Mem} (h : b 1 = b' 1) (t a : Nat) (tl : Nat → Nat) : rX6_letterAt t a tl b = rX6_letterAt t a tl b' := by
  unfold rX6_letterAt; rw [by_congr h]
theorem rs_congr {b b' : Mem} (h : b 1 = b' 1) (a : Nat) (tl : Nat → Nat) : rX6_readsSaver a tl b = rX6_readsSaver a tl b' := by
  unfold rX6_readsSaver; rw [by_congr h, fg_congr h, le_congr h]
theorem rq_congr {b b' : Mem} (h : b 1 = b' 1) (a : Nat) (tl : Nat → Nat) : rX6_readsPartner a tl b = rX6_readsPartner a tl b' := by
  unfold rX6_readsPartner; rw [fg_congr h, le_congr h]
theorem w0_congr (tl : Nat → Nat) (m m' : Mem) : ∀ (fuel n at_ : Nat) (b b' : Mem), b 1 = b' 1 → b 2 0 = b' 2 0 → (wX6_readsParts0 tl m fuel n at_ b).1 = (wX6_readsParts0 tl m' fuel n at_ b').1 ∧ (wX6_readsParts0 tl m fuel n at_ b).2 2 0 = (wX6_readsParts0 tl m' fuel n at_ b').2 2 0 := by
  intro fuel
  induction fuel with
  | zero => exact fun n at_ b b' _ h2 => ⟨rfl, h2⟩
  | succ fuel ih =>
    intro n at_ b b' h1 h2
    have e1 : (fX6_readsSaver n at_ tl b) 1 = b 1 := fr_fX6_readsSaver n at_ tl b 1 (by decide) (by decide) (by decide)
    have e1' : (fX6_readsSaver n at_ tl b') 1 = b' 1 := fr_fX6_readsSaver n at_ tl b' 1 (by decide) (by decide) (by decide)
    have e2 : (fX6_readsSaver n at_ tl b) 2 = b 2 := fr_fX6_readsSaver n at_ tl b 2 (by decide) (by decide) (by decide)
    have e2' : (fX6_readsSaver n at_ tl b') 2 = b' 2 := fr_fX6_readsSaver n at_ tl b' 2 (by decide) (by decide) (by decide)
    have h1' : (fX6_readsSaver n at_ tl b) 1 = (fX6_readsSaver n at_ tl b') 1 := by rw [e1, e1', h1]
    have h2' : (fX6_readsSaver n at_ tl b) 2 0 = (fX6_readsSaver n at_ tl b') 2 0 := by rw [e2, e2', h2]
    unfold wX6_readsParts0
    by_cases h8 : n = 8
    · simp only [if_pos h8, show ¬ 3 ≤ 0 by decide, if_false]
      by_cases c1 : at_ < tl 0
      · simp only [if_pos c1]; exact ⟨trivial, h2⟩
      · by_cases c2 : at_ = 0
        · simp only [if_neg c1, if_pos c2]; exact ⟨trivial, h2⟩
        · simp only [if_neg c1, if_neg c2]; exact ⟨trivial, h2⟩
    · rw [if_neg h8, if_neg h8, if_neg h8, if_neg h8, rs_congr h1, by_congr h1']
      have key : ∀ (P : Prop) [Decidable P] (A A' B B' : Int32 × Mem), (A.1 = A'.1 ∧ A.2 2 0 = A'.2 2 0) → (B.1 = B'.1 ∧ B.2 2 0 = B'.2 2 0) → ((if P then A else B).1 = (if P then A' else B').1 ∧ (if P then A else B).2 2 0 = (if P then A' else B').2 2 0) := by
        intro P _ A A' B B' ha hb
        by_cases h : P
        · rw [if_pos h, if_pos h]; exact ha
        · rw [if_neg h, if_neg h]; exact hb
      have body := key (3 ≤ rX6_readsSaver at_ tl b') _ _ _ _ (key (at_ + 3 = tl 0) (-1, m2 (fX6_readsSaver n at_ tl b) 2 0 (nI (n + 1))) (-1, m2 (fX6_readsSaver n at_ tl b') 2 0 (nI (n + 1))) _ _ ⟨rfl, by simp [m2]⟩ (key (rX6_byteAt 0 (at_ + 3) tl (fX6_readsSaver n at_ tl b') = nI 59) _ _ (nI (at_ + 3), fX6_readsSaver n at_ tl b) (nI (at_ + 3), fX6_readsSaver n at_ tl b') (ih (n + 1) (at_ + 3 + 1) _ _ h1' h2') ⟨rfl, h2'⟩)) (show ((nI (at_ + rX6_readsSaver at_ tl b'), fX6_readsSaver n at_ tl b) : Int32 × Mem).1 = ((nI (at_ + rX6_readsSaver at_ tl b'), fX6_readsSaver n at_ tl b') : Int32 × Mem).1 ∧ _ from ⟨rfl, h2'⟩)
      exact key (at_ < tl 0) _ _ _ _ body (key (at_ = 0) (-1, b) (-1, b') _ _ ⟨rfl, h2⟩ body)
theorem w1_congr (tl : Nat → Nat) (m m' : Mem) : ∀ (fuel n at_ : Nat) (b b' : Mem), b 1 = b' 1 → b 6 0 = b' 6 0 → (wX6_readsParts1 tl m fuel n at_ b).1 = (wX6_readsParts1 tl m' fuel n at_ b').1 ∧ (wX6_readsParts1 tl m fuel n at_ b).2 6 0 = (wX6_readsParts1 tl m' fuel n at_ b').2 6 0 := by
  intro fuel
  induction fuel with
  | zero => exact fun n at_ b b' _ h2 => ⟨rfl, h2⟩
  | succ fuel ih =>
    intro n at_ b b' h1 h2
    have e1 : (fX6_readsPartner n at_ tl b) 1 = b 1 := fr_fX6_readsPartner n at_ tl b 1 (by decide) (by decide)
    have e1' : (fX6_readsPartner n at_ tl b') 1 = b' 1 := fr_fX6_readsPartner n at_ tl b' 1 (by decide) (by decide)
    have e2 : (fX6_readsPartner n at_ tl b) 6 = b 6 := fr_fX6_readsPartner n at_ tl b 6 (by decide) (by decide)
    have e2' : (fX6_readsPartner n at_ tl b') 6 = b' 6 := fr_fX6_readsPartner n at_ tl b' 6 (by decide) (by decide)
    have h1' : (fX6_readsPartner n at_ tl b) 1 = (fX6_readsPartner n at_ tl b') 1 := by rw [e1, e1', h1]
    have h2' : (fX6_readsPartner n at_ tl b) 6 0 = (fX6_readsPartner n at_ tl b') 6 0 := by rw [e2, e2', h2]
    unfold wX6_readsParts1
    by_cases h8 : n = 8
    · simp only [if_pos h8, show ¬ 2 ≤ 0 by decide, if_false]
      by_cases c1 : at_ < tl 1
      · simp only [if_pos c1]; exact ⟨trivial, h2⟩
      · by_cases c2 : at_ = 0
        · simp only [if_neg c1, if_pos c2]; exact ⟨trivial, h2⟩
        · simp only [if_neg c1, if_neg c2]; exact ⟨trivial, h2⟩
    · rw [if_neg h8, if_neg h8, if_neg h8, if_neg h8, rq_congr h1, by_congr h1']
      have key : ∀ (P : Prop) [Decidable P] (A A' B B' : Int32 × Mem), (A.1 = A'.1 ∧ A.2 6 0 = A'.2 6 0) → (B.1 = B'.1 ∧ B.2 6 0 = B'.2 6 0) → ((if P then A else B).1 = (if P then A' else B').1 ∧ (if P then A else B).2 6 0 = (if P then A' else B').2 6 0) := by
        intro P _ A A' B B' ha hb
        by_cases h : P
        · rw [if_pos h, if_pos h]; exact ha
        · rw [if_neg h, if_neg h]; exact hb
      have body := key (2 ≤ rX6_readsPartner at_ tl b') _ _ _ _ (key (at_ + 2 = tl 1) (-1, m2 (fX6_readsPartner n at_ tl b) 6 0 (nI (n + 1))) (-1, m2 (fX6_readsPartner n at_ tl b') 6 0 (nI (n + 1))) _ _ ⟨rfl, by simp [m2]⟩ (key (rX6_byteAt 1 (at_ + 2) tl (fX6_readsPartner n at_ tl b') = nI 59) _ _ (nI (at_ + 2), fX6_readsPartner n at_ tl b) (nI (at_ + 2), fX6_readsPartner n at_ tl b') (ih (n + 1) (at_ + 2 + 1) _ _ h1' h2') ⟨rfl, h2'⟩)) (show ((nI (at_ + rX6_readsPartner at_ tl b'), fX6_readsPartner n at_ tl b) : Int32 × Mem).1 = ((nI (at_ + rX6_readsPartner at_ tl b'), fX6_readsPartner n at_ tl b') : Int32 × Mem).1 ∧ _ from ⟨rfl, h2'⟩)
      exact key (at_ < tl 1) _ _ _ _ body (key (at_ = 0) (-1, b) (-1, b') _ _ ⟨rfl, h2⟩ body)
theorem m2_cg {M m : Mem} {f g i : Nat} (v : Int32) (h : M g = m g) (hf : g ≠ f) : m2 M f i v g = m2 m f i v g := by rw [m2_ff _ _ hf, m2_ff _ _ hf, h]
theorem rp0_congr {M m : Mem} (tl : Nat → Nat) (h : M 1 = m 1) : rX6_readsParts0 tl M = rX6_readsParts0 tl m := (w0_congr tl M m 9 0 0 _ _ (m2_cg _ h (by decide)) (by simp [m2])).1
theorem rp1_congr {M m : Mem} (tl : Nat → Nat) (h : M 1 = m 1) : rX6_readsParts1 tl M = rX6_readsParts1 tl m := (w1_congr tl M m 9 0 0 _ _ (m2_cg _ h (by decide)) (by simp [m2])).1
theorem nS_congr {M m : Mem} (tl : Nat → Nat) (h : M 1 = m 1) : nS tl M = nS tl m := congrArg Int32.toNatClampNeg (w0_congr tl M m 9 0 0 _ _ (m2_cg _ h (by decide)) (by simp [m2])).2
theorem nP_congr {M m : Mem} (tl : Nat → Nat) (h : M 1 = m 1) : nP tl M = nP tl m := congrArg Int32.toNatClampNeg (w1_congr tl M m 9 0 0 _ _ (m2_cg _ h (by decide)) (by simp [m2])).2
theorem hS' {M m : Mem} (tl : Nat → Nat) (h : M 1 = m 1) : fX6_readsParts0 tl M 2 0 = nI (nS tl m) := by rw [← nS_congr tl h]; exact hS tl M
theorem hP' {M m : Mem} (tl : Nat → Nat) (h : M 1 = m 1) : fX6_readsParts1 tl M 6 0 = nI (nP tl m) := by rw [← nP_congr tl h]; exact hP tl M
