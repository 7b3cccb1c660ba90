/-! MATCHINGS: what subsets say, what augmenting paths find -/
/-- a matching of the first K savers into partners of S: k sits with f k -/
def mt_ok (R : Nat → Nat → Prop) (K : Nat) (S : Nat → Bool) (f : Nat → Option Nat) : Prop :=
  (∀ k p, f k = some p → k < K ∧ S p = true ∧ R k p) ∧ ∀ k k' p, f k = some p → f k' = some p → k = k'
def mt_sz (f : Nat → Option Nat) (K : Nat) : Nat := fb_ct (fun k => (f k).isSome) K
/-- s is how many may sit at most -/
def mt_is (R : Nat → Nat → Prop) (K : Nat) (S : Nat → Bool) (s : Nat) : Prop :=
  (∃ f, mt_ok R K S f ∧ mt_sz f K = s) ∧ ∀ f, mt_ok R K S f → mt_sz f K ≤ s
theorem mt_one {R : Nat → Nat → Prop} {K : Nat} {S : Nat → Bool} {s t : Nat} (h : mt_is R K S s) (h' : mt_is R K S t) : s = t := by
  obtain ⟨⟨f, hf, e⟩, hb⟩ := h
  obtain ⟨⟨f', hf', e'⟩, hb'⟩ := h'
  have h1 := hb f' hf'
  have h2 := hb' f hf
  omega
theorem mt_congr {R R' : Nat → Nat → Prop} {K : Nat} {S S' : Nat → Bool} {s : Nat} (hR : ∀ k p, k < K → S p = true → (R k p ↔ R' k p)) (hS : ∀ p, S p = S' p) (h : mt_is R K S s) : mt_is R' K S' s := by
  have hS' : S = S' := funext hS
  subst hS'
  have e : ∀ f, mt_ok R K S f ↔ mt_ok R' K S f := by
    intro f
    refine ⟨fun z => ⟨fun k p q => ?_, z.2⟩, fun z => ⟨fun k p q => ?_, z.2⟩⟩
    · obtain ⟨a, b, c⟩ := z.1 k p q
      exact ⟨a, b, (hR k p a b).mp c⟩
    · obtain ⟨a, b, c⟩ := z.1 k p q
      exact ⟨a, b, (hR k p a b).mpr c⟩
  obtain ⟨⟨f, h1, h2⟩, h3⟩ := h
  exact ⟨⟨f, (e f).mp h1, h2⟩, fun f hf => h3 f ((e f).mpr hf)⟩
theorem mt_0 (R : Nat → Nat → Prop) (S : Nat → Bool) : mt_is R 0 S 0 := by
  refine ⟨⟨fun _ => none, ⟨fun k p h => (by cases h), fun k k' p h => (by cases h)⟩, rfl⟩, fun f _ => ?_⟩
  exact Nat.le_refl 0
def mt_no (f : Nat → Option Nat) (K : Nat) : Nat → Option Nat := fun k => if k = K then none else f k
theorem mt_no_ok {R : Nat → Nat → Prop} {K : Nat} {S : Nat → Bool} {f : Nat → Option Nat} (h : mt_ok R (K + 1) S f) : mt_ok R K S (mt_no f K) := by
  refine ⟨fun k p e => ?_, fun k k' p e e' => ?_⟩
  · unfold mt_no at e
    by_cases hk : k = K
    · rw [if_pos hk] at e; cases e
    · rw [if_neg hk] at e
      obtain ⟨a, b, c⟩ := h.1 k p e
      exact ⟨by omega, b, c⟩
  · unfold mt_no at e e'
    by_cases hk : k = K
    · rw [if_pos hk] at e; cases e
    · by_cases hk' : k' = K
      · rw [if_pos hk'] at e'; cases e'
      · rw [if_neg hk] at e; rw [if_neg hk'] at e'
        exact h.2 k k' p e e'
theorem mt_no_sz (f : Nat → Option Nat) (K : Nat) : mt_sz (mt_no f K) K = mt_sz f K := fb_ct_cong (fun k hk => by unfold mt_no; rw [if_neg (by omega)])
theorem mt_sz_succ (f : Nat → Option Nat) (K : Nat) : mt_sz f (K + 1) = mt_sz f K + if (f K).isSome then 1 else 0 := rfl
theorem mt_wide {R : Nat → Nat → Prop} {K : Nat} {S : Nat → Bool} {f : Nat → Option Nat} (h : mt_ok R K S f) : mt_ok R (K + 1) S f := ⟨fun k p e => by obtain ⟨a, b, c⟩ := h.1 k p e; exact ⟨by omega, b, c⟩, h.2⟩
theorem mt_top {R : Nat → Nat → Prop} {K : Nat} {S : Nat → Bool} {f : Nat → Option Nat} (h : mt_ok R K S f) : f K = none := by
  cases e : f K with
  | none => rfl
  | some p => exact absurd (h.1 K p e).1 (by omega)
/-- one saver more by the subsets' rule -/
theorem mt_step {R : Nat → Nat → Prop} {K m : Nat} {S : Nat → Bool} {d : (Nat → Bool) → Nat} {v : Nat → Nat} (hd : ∀ T, mt_is R K T (d T)) (hS : ∀ p, S p = true → p < m) (h0 : v 0 = d S)
    (hv : ∀ p, p < m → (S p = true ∧ R K p → v (p + 1) = max (v p) (d (fun q => if q = p then false else S q) + 1)) ∧ (¬ (S p = true ∧ R K p) → v (p + 1) = v p)) : mt_is R (K + 1) S (v m) := by
  have hmono : ∀ j i, i ≤ j → j ≤ m → v i ≤ v j := by
    intro j
    induction j with
    | zero => intro i hi _; rw [show i = 0 by omega]; exact Nat.le_refl _
    | succ j ih =>
      intro i hi hj
      by_cases e : i = j + 1
      · rw [e]; exact Nat.le_refl _
      · have h1 := ih i (by omega) (by omega)
        by_cases c : S j = true ∧ R K j
        · rw [(hv j (by omega)).1 c]; omega
        · rw [(hv j (by omega)).2 c]; exact h1
  constructor
  · have : ∀ j, j ≤ m → ∃ f, mt_ok R (K + 1) S f ∧ mt_sz f (K + 1) = v j := by
      intro j
      induction j with
      | zero =>
        intro _
        obtain ⟨⟨f, hf, e⟩, -⟩ := hd S
        refine ⟨f, mt_wide hf, ?_⟩
        rw [mt_sz_succ, mt_top hf, h0, ← e]
        rfl
      | succ j ih =>
        intro hj
        by_cases c : S j = true ∧ R K j
        · rw [(hv j (by omega)).1 c]
          by_cases hm : d (fun q => if q = j then false else S q) + 1 ≤ v j
          · rw [Nat.max_eq_left hm]; exact ih (by omega)
          · rw [Nat.max_eq_right (by omega)]
            obtain ⟨⟨f, hf, e⟩, -⟩ := hd (fun q => if q = j then false else S q)
            refine ⟨fun k => if k = K then some j else f k, ⟨fun k p q => ?_, fun k k' p q q' => ?_⟩, ?_⟩
            · by_cases hk : k = K
              · simp only [if_pos hk] at q
                cases q
                exact ⟨by omega, c.1, by rw [hk]; exact c.2⟩
              · simp only [if_neg hk] at q
                obtain ⟨a1, a2, a3⟩ := hf.1 k p q
                by_cases hp : p = j
                · simp only [if_pos hp] at a2; cases a2
                · simp only [if_neg hp] at a2
                  exact ⟨by omega, a2, a3⟩
            · by_cases hk : k = K
              · simp only [if_pos hk] at q
                cases q
                by_cases hk' : k' = K
                · omega
                · simp only [if_neg hk'] at q'
                  have := (hf.1 k' j q').2.1
                  simp at this
              · simp only [if_neg hk] at q
                by_cases hk' : k' = K
                · simp only [if_pos hk'] at q'
                  cases q'
                  have := (hf.1 k j q).2.1
                  simp at this
                · simp only [if_neg hk'] at q'
                  exact hf.2 k k' p q q'
            · rw [mt_sz_succ]
              simp only [if_true, Option.isSome_some]
              rw [show mt_sz (fun k => if k = K then some j else f k) K = mt_sz f K from fb_ct_cong (fun k hk => by simp only [if_neg (show ¬ k = K by omega)]), e]
        · rw [(hv j (by omega)).2 c]; exact ih (by omega)
    exact this m (Nat.le_refl m)
  · intro f hf
    have h1 := mt_no_ok hf
    have h2 := mt_no_sz f K
    cases e : f K with
    | none =>
      rw [mt_sz_succ, e]
      have h3 := (hd S).2 _ h1
      have h4 := hmono m 0 (Nat.zero_le m) (Nat.le_refl m)
      show mt_sz f K + 0 ≤ v m
      omega
    | some p =>
      obtain ⟨a1, a2, a3⟩ := hf.1 K p e
      have hp := hS p a2
      have h3 : mt_ok R K (fun q => if q = p then false else S q) (mt_no f K) := by
        refine ⟨fun k q z => ?_, h1.2⟩
        obtain ⟨b1, b2, b3⟩ := h1.1 k q z
        refine ⟨b1, ?_, b3⟩
        by_cases hq : q = p
        · subst hq
          unfold mt_no at z
          rw [if_neg (by omega)] at z
          exact absurd (hf.2 k K q z e) (by omega)
        · simp only [if_neg hq]; exact b2
      have h4 := (hd _).2 _ h3
      have h5 := (hv p hp).1 ⟨a2, a3⟩
      have h6 := hmono m (p + 1) hp (Nat.le_refl m)
      rw [mt_sz_succ, e]
      show mt_sz f K + 1 ≤ v m
      omega
/-- counting by an injection -/
theorem mt_inj : ∀ (n m : Nat) (P Q : Nat → Bool) (g : Nat → Nat), (∀ i, i < n → P i = true → g i < m ∧ Q (g i) = true) → (∀ i j, i < n → j < n → P i = true → P j = true → g i = g j → i = j) → fb_ct P n ≤ fb_ct Q m
  | 0, _, _, _, _, _, _ => Nat.zero_le _
  | n + 1, m, P, Q, g, h1, h2 => by
    rw [fb_ct_succ]
    by_cases hp : P n = true
    · rw [if_pos hp]
      obtain ⟨a, b⟩ := h1 n (by omega) hp
      have h3 := fb_ct_upd Q false a
      rw [if_pos b] at h3
      have h4 := mt_inj n m P (fun k => if k = g n then false else Q k) g (fun i hi hpi => by
        obtain ⟨c, e⟩ := h1 i (by omega) hpi
        refine ⟨c, ?_⟩
        simp only [if_neg (show ¬ g i = g n from fun z => absurd (h2 i n (by omega) (by omega) hpi hp z) (by omega))]
        exact e) (fun i j hi hj => h2 i j (by omega) (by omega))
      have h5 : fb_ct (fun k => if k = g n then false else Q k) m + 1 = fb_ct Q m + 0 := h3
      omega
    · rw [if_neg hp]
      exact mt_inj n m P Q g (fun i hi => h1 i (by omega)) (fun i j hi hj => h2 i j (by omega) (by omega))
/-- who sits with each partner: a matching of the first K savers -/
def mt_v (R : Nat → Nat → Prop) (K m : Nat) (s : Nat → Option Nat) : Prop :=
  (∀ p k, s p = some k → p < m ∧ k < K ∧ R k p) ∧ ∀ p p' k, s p = some k → s p' = some k → p = p'
def mt_fl (m : Nat) : Nat → Bool := fun p => decide (p < m)
theorem mt_of (s : Nat → Option Nat) : ∃ f : Nat → Option Nat, ∀ k, (∀ p, f k = some p → s p = some k) ∧ (f k = none → ∀ p, ¬ s p = some k) := by
  refine Classical.axiomOfChoice (r := fun k (o : Option Nat) => (∀ p, o = some p → s p = some k) ∧ (o = none → ∀ p, ¬ s p = some k)) (fun k => ?_)
  rcases Classical.em (∃ p, s p = some k) with ⟨p, h⟩ | h
  · exact ⟨some p, fun p' e => (by cases e; exact h), fun e => (by cases e)⟩
  · exact ⟨none, fun _ e => (by cases e), fun _ p hp => h ⟨p, hp⟩⟩
theorem mt_v_is {R : Nat → Nat → Prop} {K m : Nat} {s : Nat → Option Nat} (h : mt_v R K m s) : ∃ f, mt_ok R K (mt_fl m) f ∧ mt_sz f K = fb_ct (fun p => (s p).isSome) m := by
  obtain ⟨f, hf⟩ := mt_of s
  refine ⟨f, ⟨fun k p e => ?_, fun k k' p e e' => ?_⟩, ?_⟩
  · obtain ⟨a, b, c⟩ := h.1 p k ((hf k).1 p e)
    exact ⟨b, by simp [mt_fl, a], c⟩
  · have h1 := (hf k).1 p e
    have h2 := (hf k').1 p e'
    rw [h1] at h2
    exact Option.some.inj h2
  · apply Nat.le_antisymm
    · refine mt_inj K m _ _ (fun k => (f k).getD 0) (fun k hk hp => ?_) (fun k k' hk hk' hp hp' e => ?_)
      · cases e : f k with
        | none => rw [e] at hp; cases hp
        | some p =>
          have h1 := (hf k).1 p e
          exact ⟨(h.1 p k h1).1, by simp [h1]⟩
      · cases e1 : f k with
        | none => rw [e1] at hp; cases hp
        | some p =>
          cases e2 : f k' with
          | none => rw [e2] at hp'; cases hp'
          | some p' =>
            rw [e1, e2] at e
            have h1 := (hf k).1 p e1
            have h2 := (hf k').1 p' e2
            have e' : p = p' := e
            rw [← e', h1] at h2
            exact Option.some.inj h2
    · refine mt_inj m K _ _ (fun p => (s p).getD 0) (fun p hp hs => ?_) (fun p p' hp hp' hs hs' e => ?_)
      · cases e : s p with
        | none => rw [e] at hs; cases hs
        | some k =>
          refine ⟨(h.1 p k e).2.1, ?_⟩
          show (f k).isSome = true
          cases e2 : f k with
          | none => exact absurd e ((hf k).2 e2 p)
          | some _ => rfl
      · cases e1 : s p with
        | none => rw [e1] at hs; cases hs
        | some k =>
          cases e2 : s p' with
          | none => rw [e2] at hs'; cases hs'
          | some k' =>
            rw [e1, e2] at e
            have e' : k = k' := e
            exact h.2 p p' k e1 (by rw [e2, e'])
/-- no one more: the asked partners close the search -/
theorem mt_fail {R : Nat → Nat → Prop} {K m : Nat} {s : Nat → Option Nat} {A : Nat → Bool} (hv : mt_v R K m s) (hm : mt_is R K (mt_fl m) (fb_ct (fun p => (s p).isSome) m))
    (h1 : ∀ p, p < m → R K p → A p = true) (h2 : ∀ p, A p = true → p < m ∧ ∃ k, s p = some k ∧ ∀ p', p' < m → R k p' → A p' = true) :
    mt_v R (K + 1) m s ∧ mt_is R (K + 1) (mt_fl m) (fb_ct (fun p => (s p).isSome) m) := by
  refine ⟨⟨fun p k e => ?_, hv.2⟩, ?_, fun f hf => ?_⟩
  · obtain ⟨a, b, c⟩ := hv.1 p k e
    exact ⟨a, by omega, c⟩
  · obtain ⟨⟨f, hf, e⟩, -⟩ := hm
    exact ⟨f, mt_wide hf, by rw [mt_sz_succ, mt_top hf, ← e]; rfl⟩
  · obtain ⟨g, hg⟩ := mt_of (fun p => if A p = true then s p else none)
    have hg1 : ∀ k p, g k = some p → A p = true ∧ s p = some k := by
      intro k p e
      have h3 := (hg k).1 p e
      by_cases hA : A p = true
      · rw [if_pos hA] at h3; exact ⟨hA, h3⟩
      · rw [if_neg hA] at h3; cases h3
    have hg2 : ∀ k, g k = none → ∀ p, A p = true → ¬ s p = some k := by
      intro k e p hA
      have h3 := (hg k).2 e p
      rw [if_pos hA] at h3
      exact h3
    have hlt : ∀ k p, f k = some p → p < m := fun k p e => by
      have := (hf.1 k p e).2.1
      simpa [mt_fl] using this
    have hX : ∀ k p q, g k = some q → f k = some p → A p = true := by
      intro k p q e e'
      obtain ⟨a, b⟩ := hg1 k q e
      obtain ⟨-, k', b1, b2⟩ := h2 q a
      rw [b] at b1
      cases b1
      exact b2 p (hlt k p e') (hf.1 k p e').2.2
    generalize hN : (fun k => match f k with | some p => !A p | none => false) = PN
    generalize hP : (fun k => match f k with | some p => A p | none => false) = PA
    generalize hh : (fun k => match g k with | some q => some q | none => (match f k with | some p => if A p = true then none else some p | none => none)) = h
    have hN' : ∀ k, PN k = match f k with | some p => !A p | none => false := fun k => by rw [← hN]
    have hP' : ∀ k, PA k = match f k with | some p => A p | none => false := fun k => by rw [← hP]
    have hh' : ∀ k, h k = match g k with | some q => some q | none => (match f k with | some p => if A p = true then none else some p | none => none) := fun k => by rw [← hh]
    have hNK : PN K = false := by
      rw [hN']
      cases e : f K with
      | none => rfl
      | some p => simp [h1 p (hlt K p e) (hf.1 K p e).2.2]
    have e1 : mt_sz f (K + 1) = fb_ct PA (K + 1) + fb_ct PN K := by
      have h3 : fb_ct (fun k => PA k || PN k) (K + 1) = fb_ct PA (K + 1) + fb_ct PN (K + 1) := fb_ct_or (fun k _ z => by
        obtain ⟨z1, z2⟩ := z
        rw [hP'] at z1; rw [hN'] at z2
        cases e : f k with
        | none => rw [e] at z1; cases z1
        | some p => rw [e] at z1 z2; simp only at z1 z2; rw [z1] at z2; cases z2)
      have h4 : mt_sz f (K + 1) = fb_ct (fun k => PA k || PN k) (K + 1) := fb_ct_cong (fun k _ => by
        show (f k).isSome = (PA k || PN k)
        rw [hP', hN']
        cases f k with
        | none => rfl
        | some p => simp)
      rw [h4, h3, fb_ct_succ PN, hNK]
      simp
    have e2 : fb_ct PA (K + 1) ≤ fb_ct A m := by
      refine mt_inj (K + 1) m _ _ (fun k => (f k).getD 0) (fun k hk hp => ?_) (fun k k' hk hk' hp hp' e => ?_)
      · rw [hP'] at hp
        cases e : f k with
        | none => rw [e] at hp; cases hp
        | some p => rw [e] at hp; exact ⟨hlt k p e, hp⟩
      · rw [hP'] at hp hp'
        cases e3 : f k with
        | none => rw [e3] at hp; cases hp
        | some p =>
          cases e4 : f k' with
          | none => rw [e4] at hp'; cases hp'
          | some p' =>
            rw [e3, e4] at e
            have e' : p = p' := e
            exact hf.2 k k' p e3 (by rw [e4, e'])
    have e3 : fb_ct A m ≤ fb_ct (fun k => (g k).isSome) K := by
      refine mt_inj m K _ _ (fun p => (s p).getD 0) (fun p hp hA => ?_) (fun p p' hp hp' hA hA' e => ?_)
      · obtain ⟨-, k, b1, -⟩ := h2 p hA
        rw [b1]
        refine ⟨(hv.1 p k b1).2.1, ?_⟩
        show (g k).isSome = true
        cases e : g k with
        | none => exact absurd b1 (hg2 k e p hA)
        | some _ => rfl
      · obtain ⟨-, k, b1, -⟩ := h2 p hA
        obtain ⟨-, k', b2, -⟩ := h2 p' hA'
        rw [b1, b2] at e
        have e' : k = k' := e
        exact hv.2 p p' k b1 (by rw [b2, e'])
    have e4 : mt_sz h K = fb_ct (fun k => (g k).isSome) K + fb_ct PN K := by
      have h3 : fb_ct (fun k => (g k).isSome || PN k) K = fb_ct (fun k => (g k).isSome) K + fb_ct PN K := fb_ct_or (fun k _ z => by
        obtain ⟨z1, z2⟩ := z
        rw [hN'] at z2
        cases e : g k with
        | none => rw [e] at z1; cases z1
        | some q =>
          cases e5 : f k with
          | none => rw [e5] at z2; cases z2
          | some p =>
            rw [e5] at z2
            simp only at z2
            rw [hX k p q e e5] at z2
            cases z2)
      rw [← h3]
      refine fb_ct_cong (fun k _ => ?_)
      show (h k).isSome = ((g k).isSome || PN k)
      rw [hh', hN']
      cases g k with
      | some q => rfl
      | none =>
        cases f k with
        | none => rfl
        | some p => cases hA : A p <;> simp [hA]
    have hok : mt_ok R K (mt_fl m) h := by
      have key : ∀ k p, h k = some p → (A p = true ∧ s p = some k) ∨ (A p = false ∧ f k = some p) := by
        intro k p e
        rw [hh'] at e
        cases e5 : g k with
        | some q =>
          rw [e5] at e
          cases e
          exact Or.inl (hg1 k p e5)
        | none =>
          rw [e5] at e
          cases e6 : f k with
          | none => rw [e6] at e; cases e
          | some r =>
            rw [e6] at e
            by_cases hA : A r = true
            · simp [hA] at e
            · simp [hA] at e
              subst e
              exact Or.inr ⟨by simpa using hA, rfl⟩
      refine ⟨fun k p e => ?_, fun k k' p e e' => ?_⟩
      · rcases key k p e with ⟨a, b⟩ | ⟨a, b⟩
        · obtain ⟨c1, c2, c3⟩ := hv.1 p k b
          exact ⟨c2, by simp [mt_fl, c1], c3⟩
        · obtain ⟨c1, c2, c3⟩ := hf.1 k p b
          refine ⟨?_, c2, c3⟩
          have : k ≠ K := fun z => by
            subst z
            rw [h1 p (hlt k p b) c3] at a
            cases a
          omega
      · rcases key k p e with ⟨a, b⟩ | ⟨a, b⟩
        · rcases key k' p e' with ⟨a', b'⟩ | ⟨a', b'⟩
          · rw [b] at b'; exact Option.some.inj b'
          · rw [a] at a'; cases a'
        · rcases key k' p e' with ⟨a', b'⟩ | ⟨a', b'⟩
          · rw [a] at a'; cases a'
          · exact hf.2 k k' p b b'
    have e5 := hm.2 h hok
    omega
/-- one more -/
theorem mt_succ {R : Nat → Nat → Prop} {K m : Nat} {s s' : Nat → Option Nat} (hv' : mt_v R (K + 1) m s') (hm : mt_is R K (mt_fl m) (fb_ct (fun p => (s p).isSome) m)) (hc : fb_ct (fun p => (s' p).isSome) m = fb_ct (fun p => (s p).isSome) m + 1) :
    mt_is R (K + 1) (mt_fl m) (fb_ct (fun p => (s' p).isSome) m) := by
  refine ⟨mt_v_is hv', fun f hf => ?_⟩
  have h1 := hm.2 _ (mt_no_ok hf)
  rw [mt_no_sz] at h1
  rw [mt_sz_succ, hc]
  cases (f K).isSome <;> simp <;> omega
/-- what a search for k did when it found: partners asked before stay as they were -/
def mt_fd (R : Nat → Nat → Prop) (m : Nat) (a : Nat → Bool) (s : Nat → Option Nat) (k : Nat) (s' : Nat → Option Nat) : Prop :=
  (∀ p, a p = true → s' p = s p) ∧ (∀ p p' k2, a p = false → a p' = false → s' p = some k2 → s' p' = some k2 → p = p') ∧
  (∀ p k2, a p = false → s' p = some k2 → p < m ∧ R k2 p ∧ (k2 = k ∨ ∃ p0, a p0 = false ∧ s p0 = some k2)) ∧ fb_ct (fun p => (s' p).isSome) m = fb_ct (fun p => (s p).isSome) m + 1
/-- what a search may start from -/
def mt_pre (R : Nat → Nat → Prop) (m : Nat) (a : Nat → Bool) (s : Nat → Option Nat) (k : Nat) : Prop :=
  (∀ p p' k2, a p = false → a p' = false → s p = some k2 → s p' = some k2 → p = p') ∧ (∀ p k2, a p = false → s p = some k2 → p < m ∧ R k2 p) ∧ ∀ p, a p = false → ¬ s p = some k
theorem mt_fd_wk {R : Nat → Nat → Prop} {m k : Nat} {a a1 : Nat → Bool} {s s' : Nat → Option Nat} (hp : mt_pre R m a s k) (ha : ∀ p, a p = true → a1 p = true) (h : mt_fd R m a1 s k s') : mt_fd R m a s k s' := by
  obtain ⟨h1, h2, h3, h4⟩ := h
  have cs : ∀ p, a1 p = true ∨ a1 p = false := fun p => by cases a1 p <;> simp
  refine ⟨fun p e => h1 p (ha p e), fun p p' k2 e e' z z' => ?_, fun p k2 e z => ?_, h4⟩
  · rcases cs p with c | c
    · rw [h1 p c] at z
      rcases cs p' with c' | c'
      · rw [h1 p' c'] at z'
        exact hp.1 p p' k2 e e' z z'
      · obtain ⟨-, -, q | ⟨p0, q1, q2⟩⟩ := h3 p' k2 c' z'
        · subst q; exact absurd z (hp.2.2 p e)
        · have e0 : a p0 = false := by cases e0 : a p0 with
            | false => rfl
            | true => rw [ha p0 e0] at q1; cases q1
          have := hp.1 p p0 k2 e e0 z q2
          subst this
          rw [c] at q1; cases q1
    · rcases cs p' with c' | c'
      · rw [h1 p' c'] at z'
        obtain ⟨-, -, q | ⟨p0, q1, q2⟩⟩ := h3 p k2 c z
        · subst q; exact absurd z' (hp.2.2 p' e')
        · have e0 : a p0 = false := by cases e0 : a p0 with
            | false => rfl
            | true => rw [ha p0 e0] at q1; cases q1
          have := hp.1 p' p0 k2 e' e0 z' q2
          subst this
          rw [c'] at q1; cases q1
      · exact h2 p p' k2 c c' z z'
  · rcases cs p with c | c
    · rw [h1 p c] at z
      obtain ⟨b1, b2⟩ := hp.2.1 p k2 e z
      exact ⟨b1, b2, Or.inr ⟨p, e, z⟩⟩
    · obtain ⟨b1, b2, b3⟩ := h3 p k2 c z
      refine ⟨b1, b2, b3.imp id (fun q => ?_)⟩
      obtain ⟨p0, q1, q2⟩ := q
      refine ⟨p0, ?_, q2⟩
      cases e0 : a p0 with
      | false => rfl
      | true => rw [ha p0 e0] at q1; cases q1
/-- the partner is free: he is taken -/
theorem mt_fd_free {R : Nat → Nat → Prop} {m k p : Nat} {a : Nat → Bool} {s : Nat → Option Nat} (hp : mt_pre R m a s k) (hpm : p < m) (ha : a p = false) (hR : R k p) (hs : s p = none) : mt_fd R m a s k (fun q => if q = p then some k else s q) := by
  refine ⟨fun q e => ?_, fun q q' k2 e e' z z' => ?_, fun q k2 e z => ?_, ?_⟩
  · simp only [if_neg (show ¬ q = p from fun z => by rw [z, ha] at e; cases e)]
  · by_cases c : q = p
    · simp only [if_pos c] at z
      cases z
      by_cases c' : q' = p
      · omega
      · simp only [if_neg c'] at z'
        exact absurd z' (hp.2.2 q' e')
    · simp only [if_neg c] at z
      by_cases c' : q' = p
      · simp only [if_pos c'] at z'
        cases z'
        exact absurd z (hp.2.2 q e)
      · simp only [if_neg c'] at z'
        exact hp.1 q q' k2 e e' z z'
  · by_cases c : q = p
    · simp only [if_pos c] at z
      cases z
      exact ⟨by omega, by rw [c]; exact hR, Or.inl rfl⟩
    · simp only [if_neg c] at z
      obtain ⟨b1, b2⟩ := hp.2.1 q k2 e z
      exact ⟨b1, b2, Or.inr ⟨q, e, z⟩⟩
  · have h := fb_ct_upd (fun q => (s q).isSome) true hpm
    have h' : fb_ct (fun q => if q = p then true else (s q).isSome) m + 0 = fb_ct (fun q => (s q).isSome) m + 1 := by
      have h2 : (if (s p).isSome = true then 1 else 0) = 0 := by rw [hs]; rfl
      rw [← h2]; exact h
    rw [show fb_ct (fun q => (if q = p then some k else s q).isSome) m = fb_ct (fun q => if q = p then true else (s q).isSome) m from fb_ct_cong (fun q _ => by by_cases c : q = p <;> simp [c])]
    omega
/-- the partner's own saver found another -/
theorem mt_fd_give {R : Nat → Nat → Prop} {m k k2 p : Nat} {a : Nat → Bool} {s s2 : Nat → Option Nat} (hp : mt_pre R m a s k) (hpm : p < m) (ha : a p = false) (hR : R k p) (hs : s p = some k2) (h : mt_fd R m (fun q => if q = p then true else a q) s k2 s2) : mt_fd R m a s k (fun q => if q = p then some k else s2 q) := by
  obtain ⟨h1, h2, h3, h4⟩ := h
  have ne : ∀ q, ¬ q = p → (fun q => if q = p then true else a q) q = a q := fun q c => by simp only [if_neg c]
  have out : ∀ q k3, a q = false → ¬ q = p → s2 q = some k3 → q < m ∧ R k3 q ∧ ∃ p0, a p0 = false ∧ s p0 = some k3 := by
    intro q k3 e c z
    obtain ⟨b1, b2, b3⟩ := h3 q k3 (by rw [ne q c]; exact e) z
    refine ⟨b1, b2, ?_⟩
    rcases b3 with b3 | ⟨p0, q1, q2⟩
    · subst b3; exact ⟨p, ha, hs⟩
    · refine ⟨p0, ?_, q2⟩
      by_cases c0 : p0 = p
      · simp only [if_pos c0] at q1; cases q1
      · simp only [if_neg c0] at q1; exact q1
  refine ⟨fun q e => ?_, fun q q' k3 e e' z z' => ?_, fun q k3 e z => ?_, ?_⟩
  · have c : ¬ q = p := fun z => by rw [z, ha] at e; cases e
    simp only [if_neg c]
    exact h1 q (by rw [ne q c]; exact e)
  · by_cases c : q = p
    · simp only [if_pos c] at z
      cases z
      by_cases c' : q' = p
      · omega
      · simp only [if_neg c'] at z'
        obtain ⟨-, -, p0, q1, q2⟩ := out q' k e' c' z'
        exact absurd q2 (hp.2.2 p0 q1)
    · simp only [if_neg c] at z
      by_cases c' : q' = p
      · simp only [if_pos c'] at z'
        cases z'
        obtain ⟨-, -, p0, q1, q2⟩ := out q k e c z
        exact absurd q2 (hp.2.2 p0 q1)
      · simp only [if_neg c'] at z'
        exact h2 q q' k3 (by rw [ne q c]; exact e) (by rw [ne q' c']; exact e') z z'
  · by_cases c : q = p
    · simp only [if_pos c] at z
      cases z
      exact ⟨by omega, by rw [c]; exact hR, Or.inl rfl⟩
    · simp only [if_neg c] at z
      obtain ⟨b1, b2, b3⟩ := out q k3 e c z
      exact ⟨b1, b2, Or.inr b3⟩
  · have hk : s2 p = some k2 := by rw [h1 p (by simp)]; exact hs
    rw [← h4]
    refine fb_ct_cong (fun q _ => ?_)
    by_cases c : q = p
    · simp [c, hk]
    · simp [c]
/-- what a search that failed leaves: who was asked sits with one all of whose partners were asked -/
def mt_cl (R : Nat → Nat → Prop) (m : Nat) (a : Nat → Bool) (s : Nat → Option Nat) (a' : Nat → Bool) : Prop :=
  (∀ p, a p = true → a' p = true) ∧ ∀ p, a' p = true → a p = true ∨ (p < m ∧ ∃ k2, s p = some k2 ∧ ∀ p', p' < m → R k2 p' → a' p' = true)
theorem mt_cl_rf {R : Nat → Nat → Prop} {m : Nat} {a : Nat → Bool} {s : Nat → Option Nat} : mt_cl R m a s a := ⟨fun _ h => h, fun _ h => Or.inl h⟩
/-- a further partner was asked in vain -/
theorem mt_cl_go {R : Nat → Nat → Prop} {m k2 p : Nat} {a a1 a2 : Nat → Bool} {s : Nat → Option Nat} (h : mt_cl R m a s a1) (hpm : p < m) (hs : s p = some k2) (h2 : mt_cl R m (fun q => if q = p then true else a1 q) s a2) (h3 : ∀ p', p' < m → R k2 p' → a2 p' = true) : mt_cl R m a s a2 := by
  have up : ∀ q, a1 q = true → a2 q = true := fun q e => h2.1 q (by by_cases c : q = p <;> simp [c, e])
  refine ⟨fun q e => up q (h.1 q e), fun q e => ?_⟩
  rcases h2.2 q e with c | c
  · by_cases cq : q = p
    · subst cq
      exact Or.inr ⟨hpm, k2, hs, h3⟩
    · simp only [if_neg cq] at c
      rcases h.2 q c with c1 | ⟨c1, k3, c2, c3⟩
      · exact Or.inl c1
      · exact Or.inr ⟨c1, k3, c2, fun p' z z' => up p' (c3 p' z z')⟩
  · exact Or.inr c
/-- a search from a matching, nobody asked before: what it leaves -/
theorem mt_round {R : Nat → Nat → Prop} {K m : Nat} {s s' : Nat → Option Nat} (hv : mt_v R K m s) (hm : mt_is R K (mt_fl m) (fb_ct (fun p => (s p).isSome) m)) (h : mt_fd R m (fun _ => false) s K s') :
    mt_v R (K + 1) m s' ∧ mt_is R (K + 1) (mt_fl m) (fb_ct (fun p => (s' p).isSome) m) ∧ fb_ct (fun p => (s' p).isSome) m = fb_ct (fun p => (s p).isSome) m + 1 := by
  obtain ⟨-, h2, h3, h4⟩ := h
  have hv' : mt_v R (K + 1) m s' := by
    refine ⟨fun p k e => ?_, fun p p' k e e' => h2 p p' k rfl rfl e e'⟩
    obtain ⟨b1, b2, b3⟩ := h3 p k rfl e
    refine ⟨b1, ?_, b2⟩
    rcases b3 with b3 | ⟨p0, -, q⟩
    · omega
    · have := (hv.1 p0 k q).2.1
      omega
  exact ⟨hv', mt_succ hv' hm h4, h4⟩
theorem mt_v_pre {R : Nat → Nat → Prop} {K m : Nat} {s : Nat → Option Nat} (hv : mt_v R K m s) : mt_pre R m (fun _ => false) s K :=
  ⟨fun p p' k2 _ _ e e' => hv.2 p p' k2 e e', fun p k2 _ e => ⟨(hv.1 p k2 e).1, (hv.1 p k2 e).2.2⟩, fun p _ e => absurd (hv.1 p K e).2.1 (by omega)⟩
