/-! THE CLASS'S WORLD, ITS TEXTS READ WHEN ASKED: the ints tell what a text says whether it has been read or not -/
/-- a list of rows of ints: calls, wars, seen -/
def lsO (a qa len : Nat) (ds : Nat → Option Lay) (cm : Mem) (n : Nat) : Prop :=
  ∃ q N, LsD ds a q N n (fun k => a + 64 * (k + 1)) ∧ cm a 2 = nI n ∧ ((q = 63 ∧ N = 0 ∧ ds qa = none) ∨ (q = qa ∧ N = 10)) ∧ (∀ k, k < n → ds (a + 64 * (k + 1)) = some (.inr (0, len, none))) ∧ ∀ k, n ≤ k → ds (a + 64 * (k + 1)) = none
theorem lsO.tk {a qa len n : Nat} {ds ds' : Nat → Option Lay} {cm cm' : Mem} (h : lsO a qa len ds cm n) (h63 : ds' 63 = ds 63) (ha : ds' a = ds a) (hq : ds' qa = ds qa) (hk : ∀ k, ds' (a + 64 * (k + 1)) = ds (a + 64 * (k + 1))) (hc : cm' a 2 = cm a 2) : lsO a qa len ds' cm' n := by
  obtain ⟨q, N, h1, h2, h3, h4, h5⟩ := h
  refine ⟨q, N, ⟨by rw [ha]; exact h1.1, ?_, h1.2.2⟩, hc.trans h2, h3.imp (fun z => ⟨z.1, z.2.1, by rw [hq]; exact z.2.2⟩) id, fun k hk' => by rw [hk]; exact h4 k hk', fun k hk' => by rw [hk]; exact h5 k hk'⟩
  rcases h3 with ⟨e, -⟩ | ⟨e, -⟩
  · rw [e] at h1 ⊢; rw [h63]; exact h1.2.1
  · rw [e] at h1 ⊢; rw [hq]; exact h1.2.1
def elQ2 (cm : Mem) (ds' : Nat → Option Lay) (cm' : Mem) (k : Nat) : Prop := ∃ v, v < 2 ∧ cm (32 + 64 * (k + 1)) 1 = nI v ∧ ds' (32 + 64 * (k + 1)) = some (.inl (5, [none, some (some (60 + 64 * (v + 1))), none])) ∧ cm' (32 + 64 * (k + 1)) 0 = cm (32 + 64 * (k + 1)) 0 ∧ cm' (32 + 64 * (k + 1)) 2 = cm (32 + 64 * (k + 1)) 2
/-- the ints tell what the bytes say: savers -/
def psQ2 (cm : Mem) (n : Nat) : Prop := ∃ ty bt, TxB cm 1 31 31 ty bt ∧ psX2 ty bt = (n, cm 1 5) ∧ ∀ k, k < n → cm (32 + 64 * (k + 1)) 0 = nI (bt (4 * k) - 48) ∧ cm (32 + 64 * (k + 1)) 1 = nI (if bt (4 * k + 1) = 107 then 1 else 0) ∧ cm (32 + 64 * (k + 1)) 2 = nI (bt (4 * k + 2) - 97)
def TQ2 (b : Bool) (cm : Mem) (ds' : Nat → Option Lay) (cm' : Mem) : Prop := ∃ n, n ≤ 8 ∧ cm 32 2 = nI n ∧ (∃ ty bt, TxB cm 1 31 31 ty bt) ∧ cm 1 1 = nI 8 ∧ rfOX2 ds' ∧
  ((cm 1 4 = nI 1 ∧ lsX2 ds' cm' n (fun k => 32 + 64 * (k + 1)) ∧ cm' 1 5 = cm 1 5 ∧ (∀ k, k < n → elQ2 cm ds' cm' k) ∧ clX2 ds' n) ∨ (b = false ∧ cm 1 4 = nI 0 ∧ (∃ n0 e0, lsX2 ds' cm' n0 e0) ∧ psQ2 cm n))
/-- where the k-th of n partners lies: the one who might be hired (place 18) is the last where the int 42 1 says so -/
def eQ3 (cm : Mem) (n k : Nat) : Nat := if cm 42 1 = nI 1 ∧ k + 1 = n then 18 else 42 + 64 * (k + 1)
theorem eQ3_or (cm : Mem) (n k : Nat) : eQ3 cm n k = 18 ∨ eQ3 cm n k = 42 + 64 * (k + 1) := by
  unfold eQ3
  split
  · exact Or.inl rfl
  · exact Or.inr rfl
def psQ3 (cm : Mem) (n : Nat) : Prop := ∃ ty bt, TxB cm 2 41 23 ty bt ∧ psX3 ty bt = (n, cm 2 5) ∧ ∀ k, k < n → cm (42 + 64 * (k + 1)) 0 = nI (bt (3 * k) - 48) ∧ cm (42 + 64 * (k + 1)) 1 = nI (bt (3 * k + 1) - 97)
def TQ3 (b : Bool) (cm : Mem) (ds' : Nat → Option Lay) (cm' : Mem) : Prop := ∃ n, n ≤ 9 ∧ cm 42 2 = nI n ∧ (∃ ty bt, TxB cm 2 41 23 ty bt) ∧ cm 2 1 = nI 8 ∧ rfOX3 ds' ∧
  ((cm 2 4 = nI 1 ∧ lsX3 ds' cm' n (eQ3 cm n) ∧ cm' 2 5 = cm 2 5 ∧ (∀ k, k < n → ds' (eQ3 cm n k) = some (.inl (4, [none, none])) ∧ cm' (eQ3 cm n k) 0 = cm (eQ3 cm n k) 0 ∧ cm' (eQ3 cm n k) 1 = cm (eQ3 cm n k) 1) ∧ ∀ r, drq 42 43 r → (∀ k, k < n → r ≠ eQ3 cm n k) → ds' r = none) ∨ (b = false ∧ cm 2 4 = nI 0 ∧ cm 42 1 = nI 0 ∧ (∃ n0 e0, lsX3 ds' cm' n0 e0) ∧ psQ3 cm n))
/-- places that are hidden: of a text that isn't told exactly -/
def hdn (M : Bool × Bool) (r : Nat) : Prop := (M.1 = false ∧ hdX2 r) ∨ (M.2 = false ∧ hdX3 r)
/-- the world that is told, and the one that is -/
def QA (M : Bool × Bool) (ad : Nat → Nat) (ds : Nat → Option Lay) (cm : Mem) (ad' : Nat → Nat) (ds' : Nat → Option Lay) (cm' : Mem) : Prop :=
  (∀ r, ¬ hdn M r → ad' r = ad r) ∧ (∀ r, ¬ hdn M r → ds' r = ds r) ∧ (∀ r j, ¬ hdX2 r → ¬ hdX3 r → ¬ ((r = 1 ∨ r = 2) ∧ (j = 3 ∨ j = 5)) → cm' r j = cm r j) ∧ FixD ds' ∧
  ((∃ n, n ≤ 8 ∧ lsO 4 10 2 ds' cm n) ∧ (∃ n, n ≤ 6 ∧ lsO 5 12 1 ds' cm n) ∧ ∃ n, n ≤ 8 ∧ lsO 21 13 3 ds' cm n) ∧ TQ2 M.1 cm ds' cm' ∧ TQ3 M.2 cm ds' cm'
def PicQ (x : Hx) (M : Bool × Bool) (w : Hw) (H : Heap) : Prop := ∃ ad' ds' cm', PicH x (ad', ds', cm') H ∧ QA M w.1 w.2.1 w.2.2 ad' ds' cm'
section PQ
variable {x : Hx} {M : Bool × Bool} {g : Gx} {cc : ByteArray} {nL : Nat} {own : String} {d mc ms : Nat} {ad ad' : Nat → Nat} {ds ds' : Nat → Option Lay} {cm cm' : Mem} {k n pc : Nat} {lv : Lv} {st : List Value}
theorem q_open (kk : ∀ ad' ds' cm', QA M ad ds cm ad' ds' cm' → Wd (PicH x) g nL (ad', ds', cm') k n pc lv st) : Wd (PicQ x M) g nL (ad, ds, cm) k n pc lv st := by
  intro H locs ls hP hS hl
  obtain ⟨ad', ds', cm', h1, h2⟩ := hP
  exact kk ad' ds' cm' h2 H locs ls h1 hS hl
theorem q_close (h : QA M ad ds cm ad' ds' cm') (kk : Wd (PicQ x M) g nL (ad, ds, cm) k n pc lv st) : Wd (PicH x) g nL (ad', ds', cm') k n pc lv st := by
  intro H locs ls hP hS hl
  exact kk H locs ls ⟨ad', ds', cm', hP, h⟩ hS hl
end PQ
/-- both texts untouched by a step of the other's: TQ2 and TQ3 carried over -/
theorem TQ2.tk {b : Bool} {cm c2 : Mem} {ds' d2 : Nat → Option Lay} {cm' m2' : Mem} (h : TQ2 b cm ds' cm') (hd : ∀ r, hdX2 r ∨ r = 63 → d2 r = ds' r) (hr : rfOX2 d2) (hm : ∀ r j, hdX2 r → m2' r j = cm' r j) (h5 : m2' 1 5 = cm' 1 5) (hc : ∀ r j, hdX2 r ∨ r = 1 ∨ r = 31 → c2 r j = cm r j) : TQ2 b c2 d2 m2' := by
  have h32 : hdX2 32 := Or.inl rfl
  have hel : ∀ k, hdX2 (32 + 64 * (k + 1)) := fun k => Or.inl (by omega)
  have hls : ∀ n e, lsX2 ds' cm' n e → lsX2 d2 m2' n e := by
    intro n e ⟨q, N, g1, g2, g3⟩
    have hq : d2 q = ds' q := by rcases g3 with ⟨e1, -⟩ | ⟨e1, -⟩ <;> exact hd q (by rw [e1]; first | exact Or.inr rfl | exact Or.inl (Or.inr rfl))
    exact ⟨q, N, ⟨by rw [hd 32 (Or.inl h32)]; exact g1.1, by rw [hq]; exact g1.2.1, g1.2.2⟩, by rw [hm 32 2 h32]; exact g2, g3.imp (fun z => ⟨z.1, z.2.1, by rw [hd 33 (Or.inl (Or.inr rfl))]; exact z.2.2⟩) id⟩
  have hB : ∀ ty bt, TxB cm 1 31 31 ty bt → TxB c2 1 31 31 ty bt := fun ty bt hb => hb.of (hc 1 2 (by decide)) (fun j => hc 31 j (by decide))
  obtain ⟨n, g1, g2, ⟨ty, bt, g3⟩, g4, g5, g6⟩ := h
  refine ⟨n, g1, by rw [hc 32 2 (Or.inl h32)]; exact g2, ⟨ty, bt, hB ty bt g3⟩, by rw [hc 1 1 (by decide)]; exact g4, hr, ?_⟩
  rcases g6 with ⟨a1, a2, a3, a4, a5⟩ | ⟨a1, a2, ⟨n0, e0, a3⟩, ⟨ty, bt, b1, b2, b3⟩⟩
  · refine Or.inl ⟨by rw [hc 1 4 (by decide)]; exact a1, hls _ _ a2, by rw [h5, a3, hc 1 5 (by decide)], fun k hk => ?_, fun r hr hk => by rw [hd r (Or.inl (by unfold drq at hr; rcases hr with hr | hr; exact Or.inl hr.1; exact Or.inr hr.1))]; exact a5 r hr hk⟩
    obtain ⟨v, v1, v2, v3, v4, v5⟩ := a4 k hk
    exact ⟨v, v1, by rw [hc _ _ (Or.inl (hel k))]; exact v2, by rw [hd _ (Or.inl (hel k))]; exact v3, by rw [hm _ _ (hel k), hc _ _ (Or.inl (hel k))]; exact v4, by rw [hm _ _ (hel k), hc _ _ (Or.inl (hel k))]; exact v5⟩
  · refine Or.inr ⟨a1, by rw [hc 1 4 (by decide)]; exact a2, ⟨n0, e0, hls _ _ a3⟩, ⟨ty, bt, hB ty bt b1, by rw [hc 1 5 (by decide)]; exact b2, fun k hk => ?_⟩⟩
    rw [hc _ _ (Or.inl (hel k)), hc _ _ (Or.inl (hel k)), hc _ _ (Or.inl (hel k))]
    exact b3 k hk
theorem TQ3.tk {b : Bool} {cm c2 : Mem} {ds' d2 : Nat → Option Lay} {cm' m2' : Mem} (h : TQ3 b cm ds' cm') (hd : ∀ r, hdX3 r ∨ r = 63 ∨ r = 18 → d2 r = ds' r) (hr : rfOX3 d2) (hm : ∀ r j, hdX3 r ∨ r = 18 → m2' r j = cm' r j) (h5 : m2' 2 5 = cm' 2 5) (hc : ∀ r j, hdX3 r ∨ r = 2 ∨ r = 41 ∨ r = 18 → c2 r j = cm r j) : TQ3 b c2 d2 m2' := by
  have h42 : hdX3 42 := Or.inl rfl
  have hel : ∀ k, hdX3 (42 + 64 * (k + 1)) := fun k => Or.inl (by omega)
  have hls : ∀ n e, lsX3 ds' cm' n e → lsX3 d2 m2' n e := by
    intro n e ⟨q, N, g1, g2, g3⟩
    have hq : d2 q = ds' q := by rcases g3 with ⟨e1, -⟩ | ⟨e1, -⟩ <;> exact hd q (by rw [e1]; first | exact Or.inr (Or.inl rfl) | exact Or.inl (Or.inr rfl))
    exact ⟨q, N, ⟨by rw [hd 42 (Or.inl h42)]; exact g1.1, by rw [hq]; exact g1.2.1, g1.2.2⟩, by rw [hm 42 2 (Or.inl h42)]; exact g2, g3.imp (fun z => ⟨z.1, z.2.1, by rw [hd 43 (Or.inl (Or.inr rfl))]; exact z.2.2⟩) id⟩
  have hB : ∀ ty bt, TxB cm 2 41 23 ty bt → TxB c2 2 41 23 ty bt := fun ty bt hb => hb.of (hc 2 2 (by decide)) (fun j => hc 41 j (by decide))
  have heq : ∀ n, eQ3 c2 n = eQ3 cm n := fun n => by
    funext k
    unfold eQ3
    rw [hc 42 1 (Or.inl h42)]
  have hkc : ∀ n k, hdX3 (eQ3 cm n k) ∨ eQ3 cm n k = 18 := fun n k => by
    rcases eQ3_or cm n k with e | e
    · exact Or.inr e
    · rw [e]; exact Or.inl (hel k)
  obtain ⟨n, g1, g2, ⟨ty, bt, g3⟩, g4, g5, g6⟩ := h
  refine ⟨n, g1, by rw [hc 42 2 (Or.inl h42)]; exact g2, ⟨ty, bt, hB ty bt g3⟩, by rw [hc 2 1 (by decide)]; exact g4, hr, ?_⟩
  rcases g6 with ⟨a1, a2, a3, a4, a5⟩ | ⟨a1, a2, a2', ⟨n0, e0, a3⟩, ⟨ty, bt, b1, b2, b3⟩⟩
  · refine Or.inl ⟨by rw [hc 2 4 (by decide)]; exact a1, by rw [heq]; exact hls _ _ a2, by rw [h5, a3, hc 2 5 (by decide)], fun k hk => ?_, fun r hr hk => by rw [heq] at hk; rw [hd r (Or.inl (by unfold drq at hr; rcases hr with hr | hr; exact Or.inl hr.1; exact Or.inr hr.1))]; exact a5 r hr hk⟩
    rw [heq]
    obtain ⟨v1, v2, v3⟩ := a4 k hk
    have hz := hkc n k
    have hz2 : hdX3 (eQ3 cm n k) ∨ eQ3 cm n k = 63 ∨ eQ3 cm n k = 18 := hz.imp id Or.inr
    have hz3 : hdX3 (eQ3 cm n k) ∨ eQ3 cm n k = 2 ∨ eQ3 cm n k = 41 ∨ eQ3 cm n k = 18 := hz.imp id (fun z => Or.inr (Or.inr z))
    exact ⟨by rw [hd _ hz2]; exact v1, by rw [hm _ _ hz, hc _ _ hz3]; exact v2, by rw [hm _ _ hz, hc _ _ hz3]; exact v3⟩
  · refine Or.inr ⟨a1, by rw [hc 2 4 (by decide)]; exact a2, by rw [hc 42 1 (Or.inl h42)]; exact a2', ⟨n0, e0, hls _ _ a3⟩, ⟨ty, bt, hB ty bt b1, by rw [hc 2 5 (by decide)]; exact b2, fun k hk => ?_⟩⟩
    rw [hc _ _ (Or.inl (hel k)), hc _ _ (Or.inl (hel k))]
    exact b3 k hk
