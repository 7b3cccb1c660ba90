/-! ROWS OVER THE WORLD WHOSE TEXTS ARE READ WHEN ASKED: places that aren't hidden; the three lists of rows -/
/-- sizes of the lists as numbers -/
def WFq (cm : Mem) : Prop := (cm 32 2 = nI (nn cm 32) ∧ nn cm 32 ≤ 8) ∧ (cm 42 2 = nI (nn cm 42) ∧ nn cm 42 ≤ 9) ∧ (cm 4 2 = nI (nn cm 4) ∧ nn cm 4 ≤ 8) ∧ (cm 5 2 = nI (nn cm 5) ∧ nn cm 5 ≤ 6) ∧ (cm 21 2 = nI (nn cm 21) ∧ nn cm 21 ≤ 8)
theorem QA.wf {M : Bool × Bool} {ad ad' : Nat → Nat} {ds ds' : Nat → Option Lay} {cm cm' : Mem} (h : QA M ad ds cm ad' ds' cm') : WFq cm := by
  obtain ⟨-, -, -, -, ⟨⟨nc, hc8, qc, Nc, -, c2, -⟩, ⟨nw, hw6, qw, Nw, -, w2, -⟩, ⟨ne, he8, qe, Ne, -, e2, -⟩⟩, ⟨ns, s8, s1, -⟩, ⟨np, p9, p1, -⟩⟩ := h
  unfold WFq
  rw [nn_of s1 (by omega), nn_of p1 (by omega), nn_of c2 (by omega), nn_of w2 (by omega), nn_of e2 (by omega)]
  exact ⟨⟨s1, s8⟩, ⟨p1, p9⟩, ⟨c2, hc8⟩, ⟨w2, hw6⟩, ⟨e2, he8⟩⟩
theorem QA.ls {M : Bool × Bool} {ad ad' : Nat → Nat} {ds ds' : Nat → Option Lay} {cm cm' : Mem} (h : QA M ad ds cm ad' ds' cm') {a len : Nat} (ha : (a = 4 ∧ len = 2) ∨ (a = 5 ∧ len = 1) ∨ (a = 21 ∧ len = 3)) : ∃ q N, LsD ds' a q N (nn cm a) (fun k => a + 64 * (k + 1)) ∧ cm' a 2 = nI (nn cm a) ∧ ∀ k, k < nn cm a → ds' (a + 64 * (k + 1)) = some (.inr (0, len, none)) := by
  obtain ⟨-, -, h3, -, ⟨⟨nc, hc8, qc, Nc, c1, c2, c3, c4, -⟩, ⟨nw, hw6, qw, Nw, w1, w2, w3, w4, -⟩, ⟨ne, he8, qe, Ne, e1, e2, e3, e4, -⟩⟩, -, -⟩ := h
  rcases ha with ⟨e, f⟩ | ⟨e, f⟩ | ⟨e, f⟩ <;> subst e <;> subst f
  · rw [nn_of c2 (by omega)]; exact ⟨qc, Nc, c1, by rw [h3 _ _ (by decide) (by decide) (by decide)]; exact c2, c4⟩
  · rw [nn_of w2 (by omega)]; exact ⟨qw, Nw, w1, by rw [h3 _ _ (by decide) (by decide) (by decide)]; exact w2, w4⟩
  · rw [nn_of e2 (by omega)]; exact ⟨qe, Ne, e1, by rw [h3 _ _ (by decide) (by decide) (by decide)]; exact e2, e4⟩
/-- an int stored at a place that is neither a text's nor a list's -/
theorem qa_put {M : Bool × Bool} {ad ad' : Nat → Nat} {ds ds' : Nat → Option Lay} {cm cm' : Mem} (h : QA M ad ds cm ad' ds' cm') {p f : Nat} {v : Int32} (hp : p ≠ 18 ∧ p ≠ 1 ∧ p ≠ 2 ∧ p ≠ 4 ∧ p ≠ 5 ∧ p ≠ 21 ∧ p ≠ 31 ∧ p ≠ 41 ∧ ¬ hdX2 p ∧ ¬ hdX3 p) : QA M ad ds (m2 cm p f v) ad' ds' (m2 cm' p f v) := by
  obtain ⟨h1, h2, h3, h4, ⟨⟨nc, hc8, h5⟩, ⟨nw, hw6, h6⟩, ⟨ne, he8, h7⟩⟩, h8, h9⟩ := h
  obtain ⟨g0, g1, g2, g4, g5, g21, g31, g41, gx, gy⟩ := hp
  refine ⟨h1, h2, fun r j r2 r3 rj => ?_, h4, ⟨⟨nc, hc8, h5.tk rfl rfl rfl (fun _ => rfl) (m2_f _ _ g4.symm)⟩, ⟨nw, hw6, h6.tk rfl rfl rfl (fun _ => rfl) (m2_f _ _ g5.symm)⟩, ⟨ne, he8, h7.tk rfl rfl rfl (fun _ => rfl) (m2_f _ _ g21.symm)⟩⟩,
    h8.tk (fun _ _ => rfl) h8.choose_spec.2.2.2.2.1 (fun r j hr => m2_f _ _ (fun z => gx (by rw [← z]; exact hr))) (m2_f _ _ g1.symm) (fun r j hr => m2_f _ _ (fun z => by subst z; rcases hr with hr | hr | hr; exact gx hr; exact g1 hr; exact g31 hr)),
    h9.tk (fun _ _ => rfl) h9.choose_spec.2.2.2.2.1 (fun r j hr => m2_f _ _ (fun z => by subst z; rcases hr with hr | hr; exact gy hr; exact g0 hr)) (m2_f _ _ g2.symm) (fun r j hr => m2_f _ _ (fun z => by subst z; rcases hr with hr | hr | hr | hr; exact gy hr; exact g2 hr; exact g41 hr; exact g0 hr))⟩
  unfold m2
  split
  · rfl
  · exact h3 r j r2 r3 rj
/-- an int of the partner who might be hired -/
theorem qa_put18 {M : Bool × Bool} {ad ad' : Nat → Nat} {ds ds' : Nat → Option Lay} {cm cm' : Mem} (h : QA M ad ds cm ad' ds' cm') {f : Nat} {v : Int32} : QA M ad ds (m2 cm 18 f v) ad' ds' (m2 cm' 18 f v) := by
  obtain ⟨h1, h2, h3, h4, ⟨⟨nc, hc8, h5⟩, ⟨nw, hw6, h6⟩, ⟨ne, he8, h7⟩⟩, h8, ⟨np, p9, p1, ⟨ty3, bt3, pb⟩, pm, pr, p2⟩⟩ := h
  have hcv : ∀ r j, r ≠ 18 → m2 cm 18 f v r j = cm r j := fun r j hr => m2_f _ _ hr
  have hcv' : ∀ r j, r ≠ 18 → m2 cm' 18 f v r j = cm' r j := fun r j hr => m2_f _ _ hr
  have heq : ∀ n, eQ3 (m2 cm 18 f v) n = eQ3 cm n := fun n => by
    funext k
    unfold eQ3
    rw [hcv 42 1 (by decide)]
  have both : ∀ r j, cm' r j = cm r j → m2 cm' 18 f v r j = m2 cm 18 f v r j := fun r j e => by unfold m2; split; rfl; exact e
  refine ⟨h1, h2, fun r j r2 r3 rj => both r j (h3 r j r2 r3 rj), h4, ⟨⟨nc, hc8, h5.tk rfl rfl rfl (fun _ => rfl) (hcv _ _ (by decide))⟩, ⟨nw, hw6, h6.tk rfl rfl rfl (fun _ => rfl) (hcv _ _ (by decide))⟩, ⟨ne, he8, h7.tk rfl rfl rfl (fun _ => rfl) (hcv _ _ (by decide))⟩⟩,
    h8.tk (fun _ _ => rfl) h8.choose_spec.2.2.2.2.1 (fun r j hr => hcv' r j (by rcases hr with hr | hr <;> omega)) (hcv' _ _ (by decide)) (fun r j hr => hcv r j (by rcases hr with hr | hr | hr; rcases hr with hr | hr; all_goals omega)),
    ⟨np, p9, by rw [hcv _ _ (by decide)]; exact p1, ⟨ty3, bt3, pb.of (hcv _ _ (by decide)) (fun j => hcv _ _ (by decide))⟩, by rw [hcv _ _ (by decide)]; exact pm, pr, ?_⟩⟩
  rcases p2 with ⟨a1, ⟨q, N, b1, b2, b3⟩, a3, a4, a5⟩ | ⟨a1, a2, a2', ⟨n0, e0, ⟨q, N, b1, b2, b3⟩⟩, ⟨ty, bt, c1, c2, c3⟩⟩
  · exact Or.inl ⟨by rw [hcv _ _ (by decide)]; exact a1, by rw [heq]; exact ⟨q, N, b1, by rw [hcv' _ _ (by decide)]; exact b2, b3⟩, by rw [hcv' _ _ (by decide), hcv _ _ (by decide)]; exact a3, fun k hk => by rw [heq]; exact ⟨(a4 k hk).1, both _ _ (a4 k hk).2.1, both _ _ (a4 k hk).2.2⟩, by rw [heq]; exact a5⟩
  · exact Or.inr ⟨a1, by rw [hcv _ _ (by decide)]; exact a2, by rw [hcv _ _ (by decide)]; exact a2', ⟨n0, e0, ⟨q, N, b1, by rw [hcv' _ _ (by decide)]; exact b2, b3⟩⟩, ⟨ty, bt, c1.of (hcv _ _ (by decide)) (fun j => hcv _ _ (by decide)), by rw [hcv _ _ (by decide)]; exact c2, fun k hk => by rw [hcv _ _ (by omega), hcv _ _ (by omega)]; exact c3 k hk⟩⟩
theorem fr_fQ_find (m : Mem) (f : Nat) (h0 : f % 64 ≠ 0) (h1 : f % 64 ≠ 1) (h2 : f % 64 ≠ 2) (h6 : f % 64 ≠ 6) (h7 : f % 64 ≠ 7) (h8 : f % 64 ≠ 8) (h9 : f % 64 ≠ 9) (h11 : f % 64 ≠ 11) : fQ_find m f = m f := by
  unfold fQ_find
  rw [fr_fX0_find _ _ _ _ _ _ _ f h0 h6 h7 h8 h9 h11]
  funext j
  rw [m2_f _ _ (by omega), m2_f _ _ (by omega)]
theorem fQ_1 (m : Mem) (j : Nat) : fQ_find m 1 j = m2 m 1 4 (nI 1) 1 j := by
  unfold fQ_find
  rw [fr_fX0_find _ _ _ _ _ _ _ 1 (by decide) (by decide) (by decide) (by decide) (by decide) (by decide), m2_f _ _ (by decide)]
theorem fQ_2 (m : Mem) (j : Nat) : fQ_find m 2 j = m2 m 2 4 (nI 1) 2 j := by
  unfold fQ_find
  rw [fr_fX0_find _ _ _ _ _ _ _ 2 (by decide) (by decide) (by decide) (by decide) (by decide) (by decide)]
  by_cases h : j = 4
  · subst h; rw [m2_self, m2_self]
  · rw [m2_i _ _ h, m2_i _ _ h, m2_i _ _ h]
/-- behind find() both texts are read -/
theorem fQ_fr (m : Mem) : FrQ (fQ_find m) := ⟨by rw [fQ_1, m2_self], by rw [fQ_2, m2_self]⟩
section QW
variable {x : Hx} {M : Bool × Bool} {g : Gx} {cc : ByteArray} {nL : Nat} {own : String} {d mc ms : Nat} {ad : Nat → Nat} {ds : Nat → Option Lay} {cm : Mem} {k n pc : Nat} {lv : Lv} {st rest : List Value}
theorem q_wf (kk : WFq cm → Wd (PicQ x M) g nL (ad, ds, cm) k n pc lv st) : Wd (PicQ x M) g nL (ad, ds, cm) k n pc lv st := fun H locs ls hP hS hl => by
  obtain ⟨ad', ds', cm', h1, h2⟩ := hP
  exact kk h2.wf H locs ls ⟨ad', ds', cm', h1, h2⟩ hS hl
theorem nhd {r : Nat} (h : ¬ hdX2 r ∧ ¬ hdX3 r) : ¬ hdn M r := fun z => by rcases z with z | z; exact h.1 z.2; exact h.2 z.2
theorem hq_get (F : Fx g cc nL own d mc ms (KC x)) {ref C : String} {T : u_T} {N ci index : Nat} (hin : ∀ w ∈ u_ws C T N, w ∈ lw_all) (hc : clAll[ci]? = some (C, T, N)) (p : Nat) {fl : List (Option (Option Nat))} (hL : fixL p = some (.inl (ci, fl))) (hp : ¬ hdX2 p ∧ ¬ hdX3 p) (f : Nat) (hf : f < N) (hj : ¬ ((p = 1 ∨ p = 2) ∧ (f = 3 ∨ f = 5))) (hlk : Cond.fieldLink own index ref (T f).2.1 (T f).2.2.1 ∈ lw_all) (hsame : ∀ z, (gx_s g).fieldFound? (T f).1 (T f).2.1 (T f).2.2.1 = some z → (gx_s g).fieldFound? ref (T f).2.1 (T f).2.2.1 = some z) (hfl : f < fl.length) (hi : fl.getD f none = none) {v : Int32} (hv : cm p f = v) (hd : decode cc pc = .ok (.getfield index, 3))
    (kk : Wd (PicQ x M) g nL (ad, ds, cm) k n (pc + 3) lv (.int v :: rest)) : Wd (PicQ x M) g nL (ad, ds, cm) k n pc lv (.ref (ad p) :: rest) := by
  refine q_open (fun ad' ds' cm' h => ?_)
  rw [← h.1 p (nhd hp)]
  exact hh_get F F.k.1 hin (F.k.c hc) p (h.2.2.2.1 p _ hL) f hf hlk hsame hfl (v := .int v) (by rw [hi]; show Value.int (cm' p f) = _; rw [h.2.2.1 p f hp.1 hp.2 hj, hv]) hd (q_close h kk)
theorem hq_put (F : Fx g cc nL own d mc ms (KC x)) (hA : gx_A g = hx_A x) {ref C : String} {T : u_T} {N ci index : Nat} (hin : ∀ w ∈ u_ws C T N, w ∈ lw_all) (ty : Nat → FieldType) (hty : ∀ k, k < N → parseFieldDescriptor (T k).2.2.1 = some (ty k)) (hnm : ∀ a, a < N → ∀ b, b < N → a ≠ b → (T a).2.1 ≠ (T b).2.1) (hc : clAll[ci]? = some (C, T, N)) (p : Nat) {fl : List (Option (Option Nat))} (hL : fixL p = some (.inl (ci, fl))) (h60 : p % 64 < 60) (hp : p ≠ 1 ∧ p ≠ 2 ∧ p ≠ 4 ∧ p ≠ 5 ∧ p ≠ 21 ∧ p ≠ 31 ∧ p ≠ 41 ∧ ¬ hdX2 p ∧ ¬ hdX3 p) (f : Nat) (hf : f < N) (hlk : Cond.fieldLink own index ref (T f).2.1 (T f).2.2.1 ∈ lw_all) (hsame : ∀ z, (gx_s g).fieldFound? (T f).1 (T f).2.1 (T f).2.2.1 = some z → (gx_s g).fieldFound? ref (T f).2.1 (T f).2.2.1 = some z) (hfl : f < fl.length) (hi : fl.getD f none = none) (hfin : (T f).2.2.2 = false) {v : Int32} (hn : narrow (ty f) (.int v) = .int v) (hfit : fits (ty f) (.int v) = true) (hd : decode cc pc = .ok (.putfield index, 3))
    (kk : Wd (PicQ x M) g nL (ad, ds, m2 cm p f v) k n (pc + 3) lv rest) : Wd (PicQ x M) g nL (ad, ds, cm) k n pc lv (.int v :: .ref (ad p) :: rest) := by
  refine q_open (fun ad' ds' cm' h => ?_)
  rw [← h.1 p (nhd hp.2.2.2.2.2.2.2)]
  refine hh_put F F.k.1 hA hin ty hty hnm (F.k.c hc) p (h.2.2.2.1 p _ hL) h60 f hf hlk hsame hfl hi hfin hn hfit hd ?_
  by_cases e : p = 18
  · subst e; exact q_close (qa_put18 h) kk
  · exact q_close (qa_put h ⟨e, hp⟩) kk
theorem hq_ldI (F : Fx g cc nL own d mc ms (KC x)) (p N : Nat) (hL : fixL p = some (.inr (0, N, none))) (hp : ¬ hdX2 p ∧ ¬ hdX3 p ∧ p ≠ 1 ∧ p ≠ 2) (h2 : N < 2 ^ 31) {j : Nat} (hj : j < N) {v : Int32} (hd : decode cc pc = .ok (.iaload, 1)) (hv : cm p j = v)
    (kk : Wd (PicQ x M) g nL (ad, ds, cm) k n (pc + 1) lv (.int v :: rest)) : Wd (PicQ x M) g nL (ad, ds, cm) k n pc lv (.int (nI j) :: .ref (ad p) :: rest) := by
  refine q_open (fun ad' ds' cm' h => ?_)
  rw [← h.1 p (nhd ⟨hp.1, hp.2.1⟩)]
  exact hh_ldI F F.k.1 p N (h.2.2.2.1 p _ hL) h2 hj hd (by rw [h.2.2.1 p j hp.1 hp.2.1 (by omega)]; exact hv) (q_close h kk)
theorem hq_stI (F : Fx g cc nL own d mc ms (KC x)) (hA : gx_A g = hx_A x) (p N : Nat) (hL : fixL p = some (.inr (0, N, none))) (h60 : p % 64 < 60) (hp : p ≠ 18 ∧ p ≠ 1 ∧ p ≠ 2 ∧ p ≠ 4 ∧ p ≠ 5 ∧ p ≠ 21 ∧ p ≠ 31 ∧ p ≠ 41 ∧ ¬ hdX2 p ∧ ¬ hdX3 p) (h2 : N < 2 ^ 31) {j : Nat} (hj : j < N) {v : Int32} (hd : decode cc pc = .ok (.iastore, 1))
    (kk : Wd (PicQ x M) g nL (ad, ds, m2 cm p j v) k n (pc + 1) lv rest) : Wd (PicQ x M) g nL (ad, ds, cm) k n pc lv (.int v :: .int (nI j) :: .ref (ad p) :: rest) := by
  refine q_open (fun ad' ds' cm' h => ?_)
  rw [← h.1 p (nhd hp.2.2.2.2.2.2.2.2)]
  exact hh_stI F F.k.1 hA p N (h.2.2.2.1 p _ hL) h60 h2 hj hd (q_close (qa_put h hp) kk)
/-- a row of a grid -/
theorem hq_ldA (F : Fx g cc nL own d mc ms (KC x)) (p N : Nat) (hL : fixL p = some (.inr (5, N, some (rw_ p N)))) (hp : ¬ hdX2 p ∧ ¬ hdX3 p) (hq : ∀ j, ¬ hdX2 (p + 64 * (j + 1)) ∧ ¬ hdX3 (p + 64 * (j + 1))) (h2 : N < 2 ^ 31) {j : Nat} (hj : j < N) (hd : decode cc pc = .ok (.aaload, 1))
    (kk : Wd (PicQ x M) g nL (ad, ds, cm) k n (pc + 1) lv (.ref (ad (p + 64 * (j + 1))) :: rest)) : Wd (PicQ x M) g nL (ad, ds, cm) k n pc lv (.int (nI j) :: .ref (ad p) :: rest) := by
  refine q_open (fun ad' ds' cm' h => ?_)
  rw [← h.1 p (nhd hp)]
  refine hh_ldA F F.k.1 p 5 N (h.2.2.2.1 p _ hL) (by decide) rfl h2 (q := p + 64 * (j + 1)) hj hd (rw_at hj) ?_
  rw [h.1 _ (nhd (hq j))]
  exact q_close h kk
/-- a list of rows: its size, an element, an int of it -/
theorem hq_size (F : Fx g cc nL own d mc ms (KC x)) (hA : gx_A g = hx_A x) {a len index : Nat} (ha : (a = 4 ∧ len = 2) ∨ (a = 5 ∧ len = 1) ∨ (a = 21 ∧ len = 3)) (hG : GoodIn lw_all (wsV own index RJ2 yJ2_size (ws_ yJ2_size cJ2_size 1 (some .int)))) (hdd : 2 ≤ d) (hc : k ≤ mc) (hs : n ≤ ms) (hst : (rest.map fun v => v.category).sum ≤ 8) (hd : decode cc pc = .ok (.invokevirtual index, 3))
    (kk : Wd (PicQ x M) g nL (ad, ds, cm) k n (pc + 3) lv (.int (nI (nn cm a)) :: rest)) : Wd (PicQ x M) g nL (ad, ds, cm) k n pc lv (.ref (ad a) :: rest) := by
  refine q_open (fun ad' ds' cm' h => ?_)
  obtain ⟨q, N, l1, l2, -⟩ := h.ls ha
  rw [← h.1 a (nhd (by rcases ha with ⟨e, -⟩ | ⟨e, -⟩ | ⟨e, -⟩ <;> subst e <;> decide))]
  exact cl_size F hA l1 l2 hG hdd hc hs hst hd (q_close h kk)
theorem hq_lget (F : Fx g cc nL own d mc ms (KC x)) (hA : gx_A g = hx_A x) {a len index i : Nat} (ha : (a = 4 ∧ len = 2) ∨ (a = 5 ∧ len = 1) ∨ (a = 21 ∧ len = 3)) (hi : i < nn cm a) (hG : GoodIn lw_all (wsV own index RJ2 yJ2_get (ws_ yJ2_get cJ2_get 2 (some (.object "java/lang/Object"))))) (hdd : 4 ≤ d) (hc : k ≤ mc) (hs : n ≤ ms) (hst : (rest.map fun v => v.category).sum ≤ 8) (hd : decode cc pc = .ok (.invokevirtual index, 3))
    (kk : Wd (PicQ x M) g nL (ad, ds, cm) k n (pc + 3) lv (.ref (ad (a + 64 * (i + 1))) :: rest)) : Wd (PicQ x M) g nL (ad, ds, cm) k n pc lv (.int (nI i) :: .ref (ad a) :: rest) := by
  refine q_open (fun ad' ds' cm' h => ?_)
  obtain ⟨q, N, l1, l2, -⟩ := h.ls ha
  rw [← h.1 a (nhd (by rcases ha with ⟨e, -⟩ | ⟨e, -⟩ | ⟨e, -⟩ <;> subst e <;> decide))]
  refine cl_get F hA l1 l2 hi hG hdd hc hs hst hd ?_
  rw [h.1 _ (nhd (by rcases ha with ⟨e, -⟩ | ⟨e, -⟩ | ⟨e, -⟩ <;> subst e <;> exact ⟨fun z => by rcases z with z | z <;> omega, fun z => by rcases z with z | z <;> omega⟩))]
  exact q_close h kk
theorem hq_castE (F : Fx g cc nL own d mc ms (KC x)) {a len index i : Nat} (ha : (a = 4 ∧ len = 2) ∨ (a = 5 ∧ len = 1) ∨ (a = 21 ∧ len = 3)) (hi : i < nn cm a) (hlk : Cond.classLink own index "[I" ∈ lw_all) (hd : decode cc pc = .ok (.checkcast index, 3))
    (kk : Wd (PicQ x M) g nL (ad, ds, cm) k n (pc + 3) lv (.ref (ad (a + 64 * (i + 1))) :: rest)) : Wd (PicQ x M) g nL (ad, ds, cm) k n pc lv (.ref (ad (a + 64 * (i + 1))) :: rest) := by
  refine q_open (fun ad' ds' cm' h => ?_)
  obtain ⟨q, N, -, -, l3⟩ := h.ls ha
  have e0 := h.1 (a + 64 * (i + 1)) (nhd (by rcases ha with ⟨e, -⟩ | ⟨e, -⟩ | ⟨e, -⟩ <;> subst e <;> exact ⟨fun z => by rcases z with z | z <;> omega, fun z => by rcases z with z | z <;> omega⟩))
  rw [← e0]
  refine cc_castI F (p := a + 64 * (i + 1)) (l3 i hi) hlk hd ?_
  rw [e0]
  exact q_close h kk
theorem hq_ldE (F : Fx g cc nL own d mc ms (KC x)) {a len i j : Nat} (ha : (a = 4 ∧ len = 2) ∨ (a = 5 ∧ len = 1) ∨ (a = 21 ∧ len = 3)) (hi : i < nn cm a) (hj : j < len) (hd : decode cc pc = .ok (.iaload, 1)) {v : Int32} (hv : cm (a + 64 * (i + 1)) j = v)
    (kk : Wd (PicQ x M) g nL (ad, ds, cm) k n (pc + 1) lv (.int v :: rest)) : Wd (PicQ x M) g nL (ad, ds, cm) k n pc lv (.int (nI j) :: .ref (ad (a + 64 * (i + 1))) :: rest) := by
  refine q_open (fun ad' ds' cm' h => ?_)
  obtain ⟨q, N, -, -, l3⟩ := h.ls ha
  have hnh : ¬ hdX2 (a + 64 * (i + 1)) ∧ ¬ hdX3 (a + 64 * (i + 1)) := by rcases ha with ⟨e, -⟩ | ⟨e, -⟩ | ⟨e, -⟩ <;> subst e <;> exact ⟨fun z => by rcases z with z | z <;> omega, fun z => by rcases z with z | z <;> omega⟩
  rw [← h.1 _ (nhd hnh)]
  exact hh_ldI F F.k.1 (a + 64 * (i + 1)) len (l3 i hi) (by omega) hj hd (by rw [h.2.2.1 _ _ hnh.1 hnh.2 (by omega)]; exact hv) (q_close h kk)
/-- a call of a method of the class itself, through this -/
theorem hq_cV {index : Nat} {y : MethodName} {bytes : ByteArray} {maxL d' c' e' N : Nat} {ret : Option FieldType} {As st0 : List Value} {r : Option Value} {cm' : Mem} (F : Fx g cc nL RX0 d mc ms (KC x)) (hA : gx_A g = hx_A x)
    (hM : Cn (gx_l g) y (ws_ y bytes maxL ret) d' c' e' (.ref (ad 0) :: As) (PicQ x M) (KC x) (hx_A x) (ad, ds, cm) (fun v w' => v = r ∧ w' = (ad, ds, cm')))
    (hG : GoodIn lw_all (wsV RX0 index RX0 y (ws_ y bytes maxL ret)))
    (hd : y.cls = RX0 ∧ y.cls ≠ "java/lang/invoke/MethodHandle" ∧ y.cls ≠ "java/lang/invoke/VarHandle" ∧ (parseMethodDescriptor y.desc).map (fun d => d.parameters.length) = some N)
    (hN : As.length = N) (hdd : d' + 1 ≤ d) (hml : maxL ≤ 21) (hc : k + c' ≤ mc) (hs : n + e' ≤ ms) (hst0 : st0 = As.reverse ++ .ref (ad 0) :: rest) (hst : (rest.map fun v => v.category).sum ≤ 8) (hdg : decode cc pc = .ok (.invokevirtual index, 3))
    (kk : Wd (PicQ x M) g nL (ad, ds, cm') (k + c') (n + e') (pc + 3) lv (r.toList ++ rest)) : Wd (PicQ x M) g nL (ad, ds, cm) k n pc lv st0 := by
  subst hst0
  refine ca_V (by rw [hA]; exact KC_st x) F (fun q hq => by rw [hA]; exact hq) hM hG (fun H hP => ?_) hd hN hdd hml hc hs hst hdg (fun v w' h => by rw [h.1, h.2]; exact kk)
  obtain ⟨ad', ds', cm'', h1, h2⟩ := hP
  have e0 : ad' 0 = ad 0 := h2.1 0 (nhd (by decide))
  rw [← e0]
  exact hh_recv F.k.1 (h2.2.2.2.1 0 _ rfl) (F.k.c rfl) H h1
end QW
section QM
variable {x : Hx} {M : Bool × Bool} {g : Gx} {cc : ByteArray} {nL : Nat} {own : String} {d mc ms : Nat} {ad : Nat → Nat} {ds : Nat → Option Lay} {cm : Mem} {k n pc : Nat} {lv : Lv} {rest : List Value}
theorem m2_same {m : Mem} {r j : Nat} {v : Int32} (h : m r j = v) : m2 m r j v = m := by
  funext a b
  unfold m2
  split
  · rename_i z
    rw [z.1, z.2, h]
  · rfl
/-- many() where the text is read: nothing changes -/
theorem q_many2F (F : Fx g cc nL RX0 d mc ms (KC x)) (hA : gx_A g = hx_A x) (hf : cm 1 4 = nI 1) (hdd : 13 ≤ d) (hk : k ≤ mc) (hs : n ≤ ms) (hst : (rest.map fun v => v.category).sum ≤ 8) (hd : decode cc pc = .ok (.invokevirtual 135, 3)) {v : Int32} (hv : cm 32 2 = v)
    (kk : Wd (PicQ x M) g nL (ad, ds, cm) k n (pc + 3) lv (.int v :: rest)) : Wd (PicQ x M) g nL (ad, ds, cm) k n pc lv (.ref (ad 1) :: rest) :=
  q_manyX2 (c := 0) (e := 0) F hA (fun ad' ds' cm' hfx he => iv_sel (owner := RX1) (N := 0) (As := []) F q660 q661 (va_Decl.of (F.ts _ q664) (F.ts _ q665)) q663 q664 (by decide +kernel) (fun H _ hP _ => by rw [← he]; exact hh_recv F.k.1 (hfx 1 _ rfl) (F.k.c rfl) H hP) rfl rfl hd) (Or.inl hf) hdd hk hs hst (by rw [m2_same hf, hv]; exact kk)
theorem q_many3F (F : Fx g cc nL RX0 d mc ms (KC x)) (hA : gx_A g = hx_A x) (hf : cm 2 4 = nI 1) (hdd : 13 ≤ d) (hk : k ≤ mc) (hs : n ≤ ms) (hst : (rest.map fun v => v.category).sum ≤ 8) (hd : decode cc pc = .ok (.invokevirtual 138, 3)) {v : Int32} (hv : cm 42 2 = v)
    (kk : Wd (PicQ x M) g nL (ad, ds, cm) k n (pc + 3) lv (.int v :: rest)) : Wd (PicQ x M) g nL (ad, ds, cm) k n pc lv (.ref (ad 2) :: rest) :=
  q_manyX3 (c := 0) (e := 0) F hA (fun ad' ds' cm' hfx he => iv_sel (owner := RX1) (N := 0) (As := []) F q705 q706 (va_Decl.of (F.ts _ q664) (F.ts _ q665)) q707 q664 (by decide +kernel) (fun H _ hP _ => by rw [← he]; exact hh_recv F.k.1 (hfx 2 _ rfl) (F.k.c rfl) H hP) rfl rfl hd) (Or.inl hf) hdd hk hs hst (by rw [m2_same hf, hv]; exact kk)
theorem q_many2U (F : Fx g cc nL RX0 d mc ms (KC x)) (hA : gx_A g = hx_A x) {c e : Nat} (hc : cm 1 4 = nI 1 ∨ (18 ≤ c ∧ 114 ≤ e)) (hdd : 13 ≤ d) (hk : k + c ≤ mc) (hs : n + e ≤ ms) (hst : (rest.map fun v => v.category).sum ≤ 8) (hd : decode cc pc = .ok (.invokevirtual 135, 3)) {v : Int32} (hv : cm 32 2 = v)
    (kk : Wd (PicQ x M) g nL (ad, ds, m2 cm 1 4 (nI 1)) (k + c) (n + e) (pc + 3) lv (.int v :: rest)) : Wd (PicQ x M) g nL (ad, ds, cm) k n pc lv (.ref (ad 1) :: rest) :=
  q_manyX2 (c := c) (e := e) F hA (fun ad' ds' cm' hfx he => iv_sel (owner := RX1) (N := 0) (As := []) F q660 q661 (va_Decl.of (F.ts _ q664) (F.ts _ q665)) q663 q664 (by decide +kernel) (fun H _ hP _ => by rw [← he]; exact hh_recv F.k.1 (hfx 1 _ rfl) (F.k.c rfl) H hP) rfl rfl hd) hc hdd hk hs hst (by rw [hv]; exact kk)
theorem q_many3U (F : Fx g cc nL RX0 d mc ms (KC x)) (hA : gx_A g = hx_A x) {c e : Nat} (hc : cm 2 4 = nI 1 ∨ (18 ≤ c ∧ 114 ≤ e)) (hdd : 13 ≤ d) (hk : k + c ≤ mc) (hs : n + e ≤ ms) (hst : (rest.map fun v => v.category).sum ≤ 8) (hd : decode cc pc = .ok (.invokevirtual 138, 3)) {v : Int32} (hv : cm 42 2 = v)
    (kk : Wd (PicQ x M) g nL (ad, ds, m2 cm 2 4 (nI 1)) (k + c) (n + e) (pc + 3) lv (.int v :: rest)) : Wd (PicQ x M) g nL (ad, ds, cm) k n pc lv (.ref (ad 2) :: rest) :=
  q_manyX3 (c := c) (e := e) F hA (fun ad' ds' cm' hfx he => iv_sel (owner := RX1) (N := 0) (As := []) F q705 q706 (va_Decl.of (F.ts _ q664) (F.ts _ q665)) q707 q664 (by decide +kernel) (fun H _ hP _ => by rw [← he]; exact hh_recv F.k.1 (hfx 2 _ rfl) (F.k.c rfl) H hP) rfl rfl hd) hc hdd hk hs hst (by rw [hv]; exact kk)
/-- a static call over the lazy world -/
theorem hq_cS {index : Nat} {y : MethodName} {bytes : ByteArray} {maxL d' N : Nat} {ret : Option FieldType} {As st0 : List Value} {r : Option Value} (F : Fx g cc nL own d mc ms (KC x)) (hA : gx_A g = hx_A x)
    (hM : Cn (gx_l g) y (ws_ y bytes maxL ret) d' 0 0 As (PicQ x M) (KC x) (hx_A x) (ad, ds, cm) (fun v w' => v = r ∧ w' = (ad, ds, cm)))
    (hG : GoodIn lw_all (va_wsS own index y (ws_ y bytes maxL ret)))
    (hd : y.cls ≠ "java/lang/invoke/MethodHandle" ∧ y.cls ≠ "java/lang/invoke/VarHandle" ∧ (parseMethodDescriptor y.desc).map (fun d => d.parameters.length) = some N)
    (hN : As.length = N) (hdd : d' + 1 ≤ d) (hml : maxL ≤ 21) (hc : k ≤ mc) (hs : n ≤ ms) (hst0 : st0 = As.reverse ++ rest) (hst : (rest.map fun v => v.category).sum ≤ 8) (hdg : decode cc pc = .ok (.invokestatic index, 3))
    (kk : Wd (PicQ x M) g nL (ad, ds, cm) k n (pc + 3) lv (r.toList ++ rest)) : Wd (PicQ x M) g nL (ad, ds, cm) k n pc lv st0 := by
  subst hst0
  exact ca_S (by rw [hA]; exact KC_st x) F (fun q hq => by rw [hA]; exact hq) hM hG hd hN hdd hml hc hs hst hdg (fun v w' h => by rw [h.1, h.2]; exact kk)
theorem hq_ldG (F : Fx g cc nL own d mc ms (KC x)) (p N : Nat) (hL : fixL p = some (.inr (0, N, none))) (hp : p % 64 = 6 ∨ p % 64 = 7 ∨ p % 64 = 8 ∨ p % 64 = 9 ∨ p % 64 = 22) (h2 : N < 2 ^ 31) {j : Nat} (hj : j < N) {v : Int32} (hd : decode cc pc = .ok (.iaload, 1)) (hv : cm p j = v)
    (kk : Wd (PicQ x M) g nL (ad, ds, cm) k n (pc + 1) lv (.int v :: rest)) : Wd (PicQ x M) g nL (ad, ds, cm) k n pc lv (.int (nI j) :: .ref (ad p) :: rest) :=
  hq_ldI F p N hL ⟨fun z => by rcases z with z | z <;> omega, fun z => by rcases z with z | z <;> omega, by omega, by omega⟩ h2 hj hd hv kk
theorem hq_stG (F : Fx g cc nL own d mc ms (KC x)) (hA : gx_A g = hx_A x) (p N : Nat) (hL : fixL p = some (.inr (0, N, none))) (hp : p % 64 = 6 ∨ p % 64 = 7 ∨ p % 64 = 8 ∨ p % 64 = 9 ∨ p % 64 = 22) (h2 : N < 2 ^ 31) {j : Nat} (hj : j < N) {v : Int32} (hd : decode cc pc = .ok (.iastore, 1))
    (kk : Wd (PicQ x M) g nL (ad, ds, m2 cm p j v) k n (pc + 1) lv rest) : Wd (PicQ x M) g nL (ad, ds, cm) k n pc lv (.int v :: .int (nI j) :: .ref (ad p) :: rest) :=
  hq_stI F hA p N hL (by omega) ⟨by omega, by omega, by omega, by omega, by omega, by omega, by omega, by omega, fun z => by rcases z with z | z <;> omega, fun z => by rcases z with z | z <;> omega⟩ h2 hj hd kk
theorem hq_ldAg (F : Fx g cc nL own d mc ms (KC x)) (p N : Nat) (hL : fixL p = some (.inr (5, N, some (rw_ p N)))) (hp : p % 64 = 6 ∨ p % 64 = 7 ∨ p % 64 = 8 ∨ p % 64 = 9 ∨ p % 64 = 22) (h2 : N < 2 ^ 31) {j : Nat} (hj : j < N) (hd : decode cc pc = .ok (.aaload, 1))
    (kk : Wd (PicQ x M) g nL (ad, ds, cm) k n (pc + 1) lv (.ref (ad (p + 64 * (j + 1))) :: rest)) : Wd (PicQ x M) g nL (ad, ds, cm) k n pc lv (.int (nI j) :: .ref (ad p) :: rest) :=
  hq_ldA F p N hL ⟨fun z => by rcases z with z | z <;> omega, fun z => by rcases z with z | z <;> omega⟩ (fun j => ⟨fun z => by rcases z with z | z <;> omega, fun z => by rcases z with z | z <;> omega⟩) h2 hj hd kk
end QM
theorem lX0_find_37_0 (ns np nc nw : Nat) (eB wy : Nat → Nat) (m : Mem) (i : Nat) (b : Mem) {j : Nat} (h : j ≠ 10) : lX0_find_37 ns np nc nw eB wy m i b 0 j = b 0 j := by
  have key : (it (lX0_find_137 np nc eB wy i b) (it (lX0_find_109 wy i) (it (lX0_find_45 nw eB m i) b np) ns) ns) 0 = b 0 := by
    rw [fi_lX0_find_137 _ _ _ _ _ _ _ _ _ (by decide) (by decide) (by decide) (by decide) (by decide), fi_lX0_find_109 _ _ _ _ _ (by decide) (by decide) (by decide), fi_lX0_find_45 _ _ _ _ _ _ _ (by decide)]
  unfold lX0_find_37
  split
  · split
    · rw [key]
    · split
      · rw [key]
      · rw [m2_i _ _ h, key]
  · rw [key]
theorem fQ_0 (m : Mem) {j : Nat} (h : j ≠ 10) : fQ_find m 0 j = m 0 j := by
  unfold fQ_find fX0_find
  refine (it_inv (P := fun b : Mem => b 0 j = m 0 j) ?_ (fun i b hb => (lX0_find_37_0 _ _ _ _ _ _ _ _ _ h).trans hb) _)
  rw [m2_f _ _ (by decide), m2_f _ _ (by decide), m2_i _ _ h, m2_f _ _ (by decide), m2_f _ _ (by decide)]
theorem frq_m2 {m : Mem} {p j : Nat} {v : Int32} (h : FrQ m) (h1 : p ≠ 1) (h2 : p ≠ 2) : FrQ (m2 m p j v) := ⟨by rw [m2_f _ _ h1.symm]; exact h.1, by rw [m2_f _ _ h2.symm]; exact h.2⟩
theorem frq_s1 {m : Mem} (h : FrQ m) : FrQ (m2 m 1 4 (nI 1)) := ⟨m2_self _ _ _ _, by rw [m2_f _ _ (by decide)]; exact h.2⟩
theorem frq_s2 {m : Mem} (h : FrQ m) : FrQ (m2 m 2 4 (nI 1)) := ⟨by rw [m2_f _ _ (by decide)]; exact h.1, m2_self _ _ _ _⟩
theorem frq_fr {m m' : Mem} (h : FrQ m) (h1 : m' 1 = m 1) (h2 : m' 2 = m 2) : FrQ m' := ⟨by rw [h1]; exact h.1, by rw [h2]; exact h.2⟩
theorem frq_ite {p : Prop} [Decidable p] {a b : Mem} (ha : FrQ a) (hb : FrQ b) : FrQ (if p then a else b) := by split <;> assumption
