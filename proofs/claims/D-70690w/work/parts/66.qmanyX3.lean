/-! many over PicQ -/
theorem plX3_le (ty : Nat) (bt : Nat → Nat) : ∀ f n a, n ≤ 8 → (plX3 ty bt f n a).1 ≤ 8
  | 0, n, a, h => h
  | f + 1, n, a, h => by
    unfold plX3
    split
    · split
      · split
        · split
          · exact plX3_le ty bt f (n + 1) _ (by omega)
          · exact Nat.zero_le _
        · exact Nat.zero_le _
      · exact Nat.zero_le _
    · exact h
theorem psX3_le (ty : Nat) (bt : Nat → Nat) : (psX3 ty bt).1 ≤ 8 := by
  unfold psX3
  split
  · exact Nat.zero_le _
  · split
    · exact plX3_le ty bt 32 1 _ (by decide)
    · exact Nat.zero_le _

/-- behind a reading of this text the other's references are as they were -/
theorem rfX2_rdX3 {ds ds' : Nat → Option Lay} {cm : Mem} {bt : Nat → Nat} {n : Nat} (h : rdX3 ds' cm bt n) (hd : ∀ r, ¬ hdX3 r → ds' r = ds r) (hr : rfOX2 ds) : rfOX2 ds' := by
  intro r L q h1 h2 h3
  by_cases c : hdX3 r
  · exfalso
    obtain ⟨⟨q0, N0, g1, -, g3⟩, g4, -, -, -, g8⟩ := h
    by_cases c1 : r = 42
    · rw [c1, g1.1] at h1
      cases h1
      have hq' : some (some q) ∈ ([none, some (some q0), none] : List (Option (Option Nat))) := h2
      have hm : q = q0 := by simpa using hq'
      unfold drq at h3
      rcases g3 with ⟨e1, -⟩ | ⟨e1, -⟩ <;> omega
    · by_cases c2 : r = 43
      · rcases g3 with ⟨-, -, e3⟩ | ⟨e1, -⟩
        · rw [c2, e3] at h1; cases h1
        · rw [c2, ← e1, g1.2.1] at h1
          cases h1
          obtain ⟨j, hj⟩ := h2
          dsimp only at hj
          by_cases hjn : j < n
          · rw [if_pos hjn] at hj
            cases hj
            unfold drq at h3
            omega
          · rw [if_neg hjn] at hj; cases hj
      · have hdr : drq 42 43 r := by unfold drq; rcases c with c | c; exact Or.inl ⟨c, c1⟩; exact Or.inr ⟨c, c2⟩
        rcases Classical.em (∃ k, k < n ∧ r = 42 + 64 * (k + 1)) with ⟨k, hk, e⟩ | hno
        · have hel := (g4 k hk).1
          rw [e, hel] at h1
          cases h1
          have hq' : some (some q) ∈ ([none, none] : List (Option (Option Nat))) := h2
          simp at hq'
        · rw [g8 r hdr (fun k hk e => hno ⟨k, hk, e⟩)] at h1
          cases h1
  · rw [hd r c] at h1
    exact hr r L q h1 h2 h3
section QRX3
variable {x : Hx} {M : Bool × Bool} {g : Gx} {cc : ByteArray} {nL : Nat} {own : String} {d mc ms : Nat} {ad : Nat → Nat} {ds : Nat → Option Lay} {cm : Mem} {k n pc : Nat} {lv : Lv} {rest : List Value}
/-- the world behind a reading -/
theorem qa_rdX3 {ad' ad2 : Nat → Nat} {ds' ds2 : Nat → Option Lay} {cm' cm2 : Mem} {ty m : Nat} {bt : Nat → Nat} {fl : Int32} (h : QA M ad ds cm ad' ds' cm') (hM : M.2 = false) (hm8 : m ≤ 8) (hc2 : cm 42 2 = nI m) (hps : psX3 ty bt = (m, cm 2 5)) (hfl : (psX3 ty bt).2 = fl) (hel : ∀ k, k < m → cm (42 + 64 * (k + 1)) 0 = nI (bt (3 * k) - 48) ∧ cm (42 + 64 * (k + 1)) 1 = nI (bt (3 * k + 1) - 97)) (hmr : cm 42 1 = nI 0) (t : TkS 2 hdX3 ad' ds' cm' ad2 ds2 cm2) (hrd : rdX3 ds2 cm2 bt m) : QA M ad ds (m2 cm 2 4 (nI 1)) ad2 ds2 (m2 (m2 cm2 2 5 fl) 2 4 (nI 1)) := by
  obtain ⟨h1, h2, h3, h4, ⟨h5, h6, h7⟩, h8, h9⟩ := h
  have nh : ∀ r, ¬ hdn M r → ¬ hdX3 r := fun r hr z => hr (by first | exact Or.inl ⟨hM, z⟩ | exact Or.inr ⟨hM, z⟩)
  have hS4 : ∀ r, hdX3 r → r % 64 = 32 ∨ r % 64 = 33 ∨ r % 64 = 42 ∨ r % 64 = 43 := fun r h => by rcases h with h | h <;> omega
  have cq : ∀ r j, r ≠ 2 → m2 (m2 cm2 2 5 fl) 2 4 (nI 1) r j = cm2 r j := fun r j h => by rw [m2_f _ _ h, m2_f _ _ h]
  have cv : ∀ r j, r ≠ 2 → m2 cm 2 4 (nI 1) r j = cm r j := fun r j h => m2_f _ _ h
  have cw : ∀ r j, ¬ (r = 2 ∧ j = 4) → m2 cm 2 4 (nI 1) r j = cm r j := fun r j h => by simp [m2, h]
  refine ⟨fun r hr => (t.1 r (nh r hr)).trans (h1 r hr), fun r hr => (t.2.1 r (nh r hr)).trans (h2 r hr), fun r j r2 r3 rj => ?_, fix_tk h4 t hS4, ⟨?_, ?_, ?_⟩, ?_, ?_⟩
  · by_cases c : r = 2
    · subst c
      by_cases c4 : j = 4
      · subst c4; rw [m2_self, m2_self]
      · have c5 : j ≠ 5 := fun z => rj ⟨by decide, Or.inr z⟩
        have c3 : j ≠ 3 := fun z => rj ⟨by decide, Or.inl z⟩
        rw [m2_i _ _ c4, m2_i _ _ c5, m2_i _ _ c4, t.2.2 _ _ (by decide) (fun z => c3 z.2)]
        exact h3 _ _ r2 r3 rj
    · rw [cq r j c, cv r j c, t.2.2 r j (by first | exact r2 | exact r3) (fun z => c z.1)]
      exact h3 r j r2 r3 rj
  · obtain ⟨z, z1, z2⟩ := h5
    exact ⟨z, z1, z2.tk (t.2.1 _ (by decide)) (t.2.1 _ (by decide)) (t.2.1 _ (by decide)) (fun k => t.2.1 _ (by omega)) (cv _ _ (by decide))⟩
  · obtain ⟨z, z1, z2⟩ := h6
    exact ⟨z, z1, z2.tk (t.2.1 _ (by decide)) (t.2.1 _ (by decide)) (t.2.1 _ (by decide)) (fun k => t.2.1 _ (by omega)) (cv _ _ (by decide))⟩
  · obtain ⟨z, z1, z2⟩ := h7
    exact ⟨z, z1, z2.tk (t.2.1 _ (by decide)) (t.2.1 _ (by decide)) (t.2.1 _ (by decide)) (fun k => t.2.1 _ (by omega)) (cv _ _ (by decide))⟩
  · refine h8.tk (fun r hr => t.2.1 r (by rcases hr with hr | hr; rcases hr with hr | hr; all_goals (intro q; rcases q with q | q <;> omega))) (rfX2_rdX3 hrd (fun r hr => t.2.1 r hr) h8.choose_spec.2.2.2.2.1) (fun r j hr => ?_) ?_ (fun r j hr => cv r j (by rcases hr with hr | hr | hr; rcases hr with hr | hr; all_goals omega))
    · have hne : ¬ hdX3 r ∧ r ≠ 2 := by rcases hr with hr | hr; all_goals exact ⟨fun q => by rcases q with q | q <;> omega, by omega⟩
      rw [cq _ _ hne.2, t.2.2 _ _ hne.1 (fun q => hne.2 q.1)]
    · rw [cq _ _ (by decide), t.2.2 _ _ (by decide) (by decide)]
  · obtain ⟨z, -, z2, ⟨ty0, bt0, z3⟩, z4, -, -⟩ := h9
    have he : ∀ k, eQ3 (m2 cm 2 4 (nI 1)) m k = 42 + 64 * (k + 1) := fun k => by
      unfold eQ3
      rw [cv _ _ (by decide), if_neg (fun q => by have q1 := q.1; rw [hmr] at q1; exact absurd q1 (by decide))]
    refine ⟨m, by omega, by rw [cv _ _ (by decide)]; exact hc2, ⟨ty0, bt0, z3.of (cw _ _ (by decide)) (fun j => cv _ _ (by decide))⟩, by rw [cw _ _ (by decide)]; exact z4, hrd.2.2.2.2.1, Or.inl ⟨m2_self _ _ _ _, ?_, ?_, fun k hk => ?_, fun r hr hk => hrd.2.2.2.2.2 r hr (fun k hk' => by have z9 := hk k hk'; rw [he] at z9; exact z9)⟩⟩
    · obtain ⟨q, N, g1, g2, g3⟩ := hrd.1
      exact ⟨q, N, by rw [show eQ3 (m2 cm 2 4 (nI 1)) m = (fun k => 42 + 64 * (k + 1)) from funext he]; exact g1, by rw [cq _ _ (by decide)]; exact g2, g3⟩
    · rw [m2_i _ _ (by decide), m2_self, cw _ _ (by decide), ← hfl, hps]
    · obtain ⟨e1, e2, e3⟩ := hrd.2.1 k hk
      obtain ⟨f1, f2⟩ := hel k hk
      rw [he]
      exact ⟨e1, by rw [cq _ _ (by omega), cv _ _ (by omega), e2, f1], by rw [cq _ _ (by omega), cv _ _ (by omega), e3, f2]⟩
set_option maxHeartbeats 4000000 in
/-- many() of the text, over the world whose texts are read when asked -/
theorem q_manyX3 (F : Fx g cc nL own d mc ms (KC x)) (hA : gx_A g = hx_A x) {c e : Nat} (hI : ∀ ad' ds' cm', FixD ds' → ad' 2 = ad 2 → InvW (PicH x) g nL (ad', ds', cm') k n pc lv (.ref (ad 2) :: rest) [.ref (ad 2)] rest yX1_many) (hc : cm 2 4 = nI 1 ∨ (18 ≤ c ∧ 114 ≤ e)) (hdd : 13 ≤ d) (hk : k + c ≤ mc) (hs : n + e ≤ ms) (hst : (rest.map fun v => v.category).sum ≤ 8)
    (kk : Wd (PicQ x M) g nL (ad, ds, m2 cm 2 4 (nI 1)) (k + c) (n + e) (pc + 3) lv (.int (cm 42 2) :: rest)) : Wd (PicQ x M) g nL (ad, ds, cm) k n pc lv (.ref (ad 2) :: rest) := by
  refine q_open (fun ad' ds' cm' h => ?_)
  have h0 := h
  obtain ⟨h1, h2, h3, h4, -, h8, h9⟩ := h
  obtain ⟨z, z1, z2, ⟨ty0, bt0, z3⟩, z4, z5, z6⟩ := h9
  have e1 : ad' 2 = ad 2 := h1 _ (fun q => by rcases q with q | q <;> exact absurd q.2 (by decide))
  have c4 : cm' 2 4 = cm 2 4 := h3 _ _ (by decide) (by decide) (by decide)
  rcases z6 with ⟨a1, a2, a3, a4, a5⟩ | ⟨a1, a2, a2', ⟨n0, e0, a3⟩, ⟨ty, bt, b1, b2, b3⟩⟩
  · obtain ⟨q, N, g1, g2, g3⟩ := a2
    have hM := metX1_many_X3_f (gx_l g) x ad' ds' cm' h4 (by rw [c4]; exact a1) q N z _ g1 g2
    rw [e1] at hM
    refine ca_R (rest := rest) (by rw [hA]; exact KC_st x) F (fun q hq => by rw [hA]; exact hq) hM q665 q81 (hI ad' ds' cm' h4 e1) (by omega) (by decide) (by omega) (by omega) hst (fun v w' hp => ?_)
    rw [hp.1, hp.2]
    have em : m2 cm 2 4 (nI 1) = cm := by
      funext r j
      by_cases hh : r = 2 ∧ j = 4
      · obtain ⟨b1, b2⟩ := hh
        subst b1; subst b2
        rw [m2_self, a1]
      · simp [m2, hh]
    rw [em, z2] at kk
    exact Wd.widen (by omega) (by omega) (q_close h0 kk)
  · have hcc : 18 ≤ c ∧ 114 ≤ e := hc.resolve_left (by rw [a2]; decide)
    have hB' : TxB cm' 2 41 23 ty bt := b1.of (h3 _ _ (by decide) (by decide) (by decide)) (fun j => h3 _ _ (by decide) (by decide) (fun q => absurd q.1 (by decide)))
    have hM := metX1_many_X3_u (gx_l g) x ad' ds' cm' h4 ty n0 e0 bt hB' (by rw [h3 _ _ (by decide) (by decide) (by decide)]; exact z4) a3 z5 (by rw [c4]; exact a2)
    rw [e1, b2] at hM
    refine ca_R (rest := rest) (by rw [hA]; exact KC_st x) F (fun q hq => by rw [hA]; exact hq) hM q665 q81 (hI ad' ds' cm' h4 e1) (by omega) (by decide) (by omega) (by omega) hst (fun v w' hp => ?_)
    obtain ⟨p1, ad2, ds2, cm2, p2, p3, p4⟩ := hp
    rw [p1, p2]
    rw [z2] at kk
    refine Wd.widen (k' := k + c) (n' := n + e) (by omega) (by omega) (q_close (qa_rdX3 h0 a1 (by have := psX3_le ty bt; rw [b2] at this; exact this) z2 b2 (by rw [b2]) b3 a2' p3 p4) kk)
end QRX3
