/-! find() OVER THE WORLD WHOSE TEXTS ARE READ WHEN ASKED -/
theorem Fx.le {g : Gx} {cc : ByteArray} {nL : Nat} {own : String} {d d' mc ms : Nat} {K : State → Prop} (F : Fx g cc nL own d mc ms K) (h : d' ≤ d) : Fx g cc nL own d' mc ms K := by
  obtain ⟨h1, h2, h3, h4, h5, h6, h7, h8, h9⟩ := F
  exact ⟨h1, h2, h3, h4, h5, h6, Nat.le_trans h h7, Nat.le_trans (Nat.mul_le_mul_left 40 h) h8, h9⟩
theorem hw_cell_fl {x : Hx} {ad : Nat → Nat} {cm cm' : Mem} {p ci : Nat} {fl : List (Option (Option Nat))} (h : ∀ k, fl.getD k none = none → k < fl.length → cm' p k = cm p k) : hw_cell x ad cm' p (.inl (ci, fl)) = hw_cell x ad cm p (.inl (ci, fl)) := by
  show (Sum.inr (ci, hw_fs ad cm' p fl) : va_E) = Sum.inr (ci, hw_fs ad cm p fl)
  congr 2
  unfold hw_fs
  apply List.map_congr_left
  intro k hk
  unfold hw_f
  cases e : fl.getD k none with
  | none => rw [h k e (List.mem_range.mp hk)]
  | some o => cases o <;> rfl
theorem PicH.cells {x : Hx} {ad : Nat → Nat} {ds : Nat → Option Lay} {cm cm' : Mem} {H : Heap} (hP : PicH x (ad, ds, cm) H) (h : ∀ p L, ds p = some L → hw_cell x ad cm' p L = hw_cell x ad cm p L) : PicH x (ad, ds, cm') H :=
  ⟨fun p L hL => by show va_at _ _ (ad p, hw_cell x ad cm' p L) H; rw [h p L hL]; exact hP.1 p L hL, hP.2⟩
/-- how many a list holds; a saver's way -/
def nn (cm : Mem) (a : Nat) : Nat := (cm a 2).toNatClampNeg
def wyQ (cm : Mem) (k : Nat) : Nat := if cm (32 + 64 * (k + 1)) 1 = nI 1 then 188 else 124
theorem nn_of {cm : Mem} {a n : Nat} (h : cm a 2 = nI n) (hn : n < 2 ^ 31) : nn cm a = n := by unfold nn; rw [h, nI_clamp hn]
theorem wyQ_or (cm : Mem) (k : Nat) : wyQ cm k = 124 ∨ wyQ cm k = 188 := by
  unfold wyQ
  split
  · exact Or.inr rfl
  · exact Or.inl rfl
theorem wyQ_of {cm : Mem} {k v : Nat} (hv : v < 2) (h : cm (32 + 64 * (k + 1)) 1 = nI v) : 60 + 64 * (v + 1) = wyQ cm k := by
  unfold wyQ
  rw [h]
  rcases (by omega : v = 0 ∨ v = 1) with e | e <;> subst e <;> decide
theorem eQ3_r (cm : Mem) (n k : Nat) : eQ3 cm n k % 64 = 42 ∨ eQ3 cm n k % 64 = 18 := by
  rcases eQ3_or cm n k with e | e <;> omega
theorem eQ3_ne (cm : Mem) (n : Nat) : ∀ k, eQ3 cm n k ≠ 1 ∧ eQ3 cm n k ≠ 2 ∧ eQ3 cm n k ≠ 32 ∧ eQ3 cm n k ≠ 42 := fun k => by
  rcases eQ3_or cm n k with e | e <;> omega
/-- both texts have been read -/
def FrQ (cm : Mem) : Prop := cm 1 4 = nI 1 ∧ cm 2 4 = nI 1
/-- both texts being read: the lists, exactly; the ints as told, but for the junk -/
theorem qa_dd {M : Bool × Bool} {x : Hx} {ad ad' : Nat → Nat} {ds ds' : Nat → Option Lay} {cm cm' : Mem} (h : QA M ad ds cm ad' ds' cm') (hf : FrQ cm) :
    (∃ q N, DD ds' (nn cm 32) (nn cm 42) (nn cm 4) (nn cm 5) (nn cm 21) (eQ3 cm (nn cm 42)) (wyQ cm) q N) ∧ (cm 32 2 = nI (nn cm 32) ∧ cm 42 2 = nI (nn cm 42) ∧ cm 4 2 = nI (nn cm 4) ∧ cm 5 2 = nI (nn cm 5) ∧ cm 21 2 = nI (nn cm 21)) ∧ ∀ H, PicH x (ad', ds', cm') H → PicH x (ad', ds', jk cm' cm) H := by
  obtain ⟨h1, h2, h3, h4, ⟨⟨nc, hc8, qc, Nc, c1, c2, c3, c4, c5⟩, ⟨nw, hw6, qw, Nw, w1, w2, w3, w4, w5⟩, ⟨ne, he8, qe, Ne, e1, e2, e3, e4, e5⟩⟩, ⟨ns, s8, s1, -, -, -, s2⟩, ⟨np, p9, p1, -, -, -, p2⟩⟩ := h
  have es := nn_of s1 (by omega)
  have ep := nn_of p1 (by omega)
  have ec := nn_of c2 (by omega)
  have ew := nn_of w2 (by omega)
  have ee := nn_of e2 (by omega)
  rw [es, ep, ec, ew, ee]
  have n01 : ¬ nI 1 = nI 0 := by decide
  obtain ⟨-, ⟨qs, Ns, s3, s4, s5⟩, s6, s7, s9⟩ := s2.resolve_right (fun z => n01 (hf.1.symm.trans z.2.1))
  obtain ⟨-, ⟨qp, Np, p3, p4, p5⟩, p6, p7, p10⟩ := p2.resolve_right (fun z => n01 (hf.2.symm.trans z.2.1))
  refine ⟨⟨fun i => [qs, qp, qc, qw, qe].getD i 0, fun i => [Ns, Np, Nc, Nw, Ne].getD i 0, h4, ⟨s3, p3, c1, w1, e1⟩, ⟨fun k hk => ?_, fun k hk => (p7 k hk).1, c4, w4, e4⟩, eQ3_r cm np, wyQ_or cm, s8, p9, hc8, hw6, he8⟩, ⟨s1, p1, c2, w2, e2⟩, fun H hP => hP.cells (fun p L hL => ?_)⟩
  · obtain ⟨v, v1, v2, v3, -⟩ := s7 k hk
    rw [← wyQ_of v1 v2]
    exact v3
  by_cases hx2 : hdX2 p
  · by_cases a1 : p = 32
    · subst a1
      rw [s3.1] at hL
      cases hL
      refine hw_cell_fl (fun k hk hk2 => ?_)
      rcases (by simp at hk2; omega : k = 0 ∨ k = 1 ∨ k = 2) with e | e | e <;> subst e
      · exact jk_in (by decide)
      · cases hk
      · rw [jk_rd (by decide), s1, s4]
    · by_cases a2 : p = 33
      · subst a2
        rcases s5 with ⟨-, -, z⟩ | ⟨z, -⟩
        · rw [z] at hL; cases hL
        · subst z
          rw [s3.2.1] at hL
          cases hL
          rfl
      · have hdr : drq 32 33 p := by unfold drq; rcases hx2 with q | q; exact Or.inl ⟨q, a1⟩; exact Or.inr ⟨q, a2⟩
        rcases Classical.em (∃ k, k < ns ∧ p = 32 + 64 * (k + 1)) with ⟨k, hk, e⟩ | hno
        · obtain ⟨v, v1, v2, v3, v4, v5⟩ := s7 k hk
          subst e
          rw [v3] at hL
          cases hL
          refine hw_cell_fl (fun j hj hj2 => ?_)
          rcases (by simp at hj2; omega : j = 0 ∨ j = 1 ∨ j = 2) with e | e | e <;> subst e
          · rw [jk_rd (by omega), v4]
          · cases hj
          · rw [jk_rd (by omega), v5]
        · rw [s9 p hdr (fun k hk e => hno ⟨k, hk, e⟩)] at hL
          cases hL
  · by_cases hx3 : hdX3 p
    · by_cases a1 : p = 42
      · subst a1
        rw [p3.1] at hL
        cases hL
        refine hw_cell_fl (fun k hk hk2 => ?_)
        rcases (by simp at hk2; omega : k = 0 ∨ k = 1 ∨ k = 2) with e | e | e <;> subst e
        · exact jk_in (by decide)
        · cases hk
        · rw [jk_rd (by decide), p1, p4]
      · by_cases a2 : p = 43
        · subst a2
          rcases p5 with ⟨-, -, z⟩ | ⟨z, -⟩
          · rw [z] at hL; cases hL
          · subst z
            rw [p3.2.1] at hL
            cases hL
            rfl
        · have hdr : drq 42 43 p := by unfold drq; rcases hx3 with q | q; exact Or.inl ⟨q, a1⟩; exact Or.inr ⟨q, a2⟩
          rcases Classical.em (∃ k, k < np ∧ p = eQ3 cm np k) with ⟨k, hk, e⟩ | hno
          · obtain ⟨v3, v4, v5⟩ := p7 k hk
            have hne := eQ3_ne cm np k
            rw [← e] at v3 v4 v5 hne
            rw [v3] at hL
            cases hL
            refine hw_cell_fl (fun j hj hj2 => ?_)
            rcases (by simp at hj2; omega : j = 0 ∨ j = 1) with e | e <;> subst e
            · rw [jk_rd (by omega), v4]
            · rw [jk_rd (by omega), v5]
          · rw [p10 p hdr (fun k hk e => hno ⟨k, hk, e⟩)] at hL
            cases hL
    · refine hw_cell_cm ?_ L
      funext j
      by_cases hj : ((p = 1 ∨ p = 2) ∧ j = 3) ∨ ((p = 32 ∨ p = 42) ∧ j = 0)
      · exact jk_in hj
      · rw [jk_rd hj]
        by_cases h5 : (p = 1 ∨ p = 2) ∧ j = 5
        · obtain ⟨z1, z2⟩ := h5
          subst z2
          rcases z1 with z1 | z1 <;> subst z1
          · exact s6.symm
          · exact p6.symm
        · exact (h3 p j hx2 hx3 (by omega)).symm
/-- a step that leaves the texts and the lists: the ints of the new world, and the junk -/
theorem qa_step {M : Bool × Bool} {ad ad' : Nat → Nat} {ds ds' : Nat → Option Lay} {cm cm' c2 : Mem} (h : QA M ad ds cm ad' ds' cm') (hf : FrQ cm) (hc : ∀ r j, (r % 64 = 1 ∨ r % 64 = 2 ∨ r % 64 = 4 ∨ r % 64 = 5 ∨ r % 64 = 21 ∨ r % 64 = 31 ∨ r % 64 = 41 ∨ hdX2 r ∨ hdX3 r) → c2 r j = cm r j) : QA M ad ds c2 ad' ds' (jk cm' c2) := by
  obtain ⟨h1, h2, h3, h4, ⟨⟨nc, hc8, h5⟩, ⟨nw, hw6, h6⟩, ⟨ne, he8, h7⟩⟩, ⟨ns, s8, s1, ⟨ty, bt, sb⟩, sm, sr, s2⟩, ⟨np, p9, p1, ⟨ty3, bt3, pb⟩, pm, pr, p2⟩⟩ := h
  have n01 : ¬ nI 1 = nI 0 := by decide
  obtain ⟨-, ⟨qs, Ns, s3, s4, s5⟩, s6, s7, s9⟩ := s2.resolve_right (fun z => n01 (hf.1.symm.trans z.2.1))
  obtain ⟨-, ⟨qp, Np, p3, p4, p5⟩, p6, p7, p10⟩ := p2.resolve_right (fun z => n01 (hf.2.symm.trans z.2.1))
  have heq : ∀ n, eQ3 c2 n = eQ3 cm n := fun n => by
    funext k
    unfold eQ3
    rw [hc 42 1 (by decide)]
  have hel : ∀ k, hdX2 (32 + 64 * (k + 1)) := fun k => Or.inl (by omega)
  refine ⟨h1, h2, fun r j r2 r3 rj => jk_rd (fun z => ?_), h4, ⟨⟨nc, hc8, h5.tk rfl rfl rfl (fun _ => rfl) (hc 4 2 (by decide))⟩, ⟨nw, hw6, h6.tk rfl rfl rfl (fun _ => rfl) (hc 5 2 (by decide))⟩, ⟨ne, he8, h7.tk rfl rfl rfl (fun _ => rfl) (hc 21 2 (by decide))⟩⟩,
    ⟨ns, s8, by rw [hc 32 2 (by decide)]; exact s1, ⟨ty, bt, sb.of (hc 1 2 (by decide)) (fun j => hc 31 j (by decide))⟩, by rw [hc 1 1 (by decide)]; exact sm, sr, Or.inl ⟨by rw [hc 1 4 (by decide)]; exact hf.1, ⟨qs, Ns, s3, by rw [jk_rd (by decide), hc 32 2 (by decide)]; exact s1, s5⟩, jk_rd (by decide), fun k hk => ?_, s9⟩⟩,
    ⟨np, p9, by rw [hc 42 2 (by decide)]; exact p1, ⟨ty3, bt3, pb.of (hc 2 2 (by decide)) (fun j => hc 41 j (by decide))⟩, by rw [hc 2 1 (by decide)]; exact pm, pr, Or.inl ⟨by rw [hc 2 4 (by decide)]; exact hf.2, ⟨qp, Np, by rw [heq]; exact p3, by rw [jk_rd (by decide), hc 42 2 (by decide)]; exact p1, p5⟩, jk_rd (by decide), fun k hk => ?_, fun r hr hk => p10 r hr (by rw [heq] at hk; exact hk)⟩⟩⟩
  · rcases z with ⟨z1, z2⟩ | ⟨z1, z2⟩
    · exact rj ⟨z1, Or.inl z2⟩
    · rcases z1 with z1 | z1
      · exact r2 (by rw [z1]; exact Or.inl rfl)
      · exact r3 (by rw [z1]; exact Or.inl rfl)
  · obtain ⟨v, v1, v2, v3, -, -⟩ := s7 k hk
    have hz := hel k
    exact ⟨v, v1, by rw [hc _ _ (by simp only [hdX2] at hz ⊢; omega)]; exact v2, v3, jk_rd (by omega), jk_rd (by omega)⟩
  · rw [heq]
    have hne := eQ3_ne cm np k
    exact ⟨(p7 k hk).1, jk_rd (by omega), jk_rd (by omega)⟩
/-- what find() does to the ints -/
noncomputable def fQ_find (cm : Mem) : Mem := fX0_find (nn cm 32) (nn cm 42) (nn cm 4) (nn cm 5) (eQ3 cm (nn cm 42)) (wyQ cm) (m2 (m2 cm 1 4 (nI 1)) 2 4 (nI 1))
section HQ
variable {x : Hx} {M : Bool × Bool} {g : Gx} {cc : ByteArray} {nL : Nat} {own : String} {d mc ms : Nat} {ad : Nat → Nat} {ds : Nat → Option Lay} {cm : Mem} {k n pc : Nat} {lv : Lv} {rest : List Value}
/-- a reference out of a field of an object that isn't hidden -/
theorem hq_getR (F : Fx g cc nL own d mc ms (KC x)) {ref C : String} {T : u_T} {N ci index : Nat} (hin : ∀ w ∈ u_ws C T N, w ∈ lw_all) (hc : clAll[ci]? = some (C, T, N)) (p q : Nat) {fl : List (Option (Option Nat))} (hL : fixL p = some (.inl (ci, fl))) (hp : ¬ hdn M p) (hq : ¬ hdn M q) (f : Nat) (hf : f < N) (hlk : Cond.fieldLink own index ref (T f).2.1 (T f).2.2.1 ∈ lw_all) (hsame : ∀ z, (gx_s g).fieldFound? (T f).1 (T f).2.1 (T f).2.2.1 = some z → (gx_s g).fieldFound? ref (T f).2.1 (T f).2.2.1 = some z) (hfl : f < fl.length) (hv : fl.getD f none = some (some q)) (hd : decode cc pc = .ok (.getfield index, 3))
    (kk : Wd (PicQ x M) g nL (ad, ds, cm) k n (pc + 3) lv (.ref (ad q) :: rest)) : Wd (PicQ x M) g nL (ad, ds, cm) k n pc lv (.ref (ad p) :: rest) := by
  refine q_open (fun ad' ds' cm' h => ?_)
  rw [← h.1 p hp]
  refine hh_get F F.k.1 hin (F.k.c hc) p (h.2.2.2.1 p _ hL) f hf hlk hsame hfl (v := .ref (ad' q)) (by rw [hv]; rfl) hd ?_
  rw [h.1 q hq]
  exact q_close h kk
end HQ
set_option maxHeartbeats 4000000 in
theorem metX0_find_q (l : Launch) (x : Hx) (M : Bool × Bool) (ad : Nat → Nat) (ds : Nat → Option Lay) (cm : Mem) (c e : Nat) (hc : FrQ cm ∨ (18 ≤ c ∧ 114 ≤ e)) :
    Cn l yX0_find (ws_ yX0_find cX0_find 3 none) 14 (c + c) (e + e) [.ref (ad 0)] (PicQ x M) (KC x) (hx_A x) (ad, ds, cm) (fun rv_ w_ => rv_ = none ∧ w_ = (ad, ds, fQ_find cm)) := by
  have nh : ∀ r, ¬ hdX2 r → ¬ hdX3 r → ¬ hdn M r := fun r a b z => by rcases z with z | z; exact a z.2; exact b z.2
  refine cn_v (own := RX0) rfl (Nat.le_of_ble_eq_true rfl) rfl (fun g hgl hA F hret => ?_)
  refine Wd.eql (lv' := [(0, .ref (ad 0))]) rfl ?_
  refine ro_aload_n F dX0_find_0 0 rfl ?_
  refine hq_getR F in_X0 (ci := 0) rfl 0 1 rfl (nh _ (by decide) (by decide)) (nh _ (by decide) (by decide)) 1 (by decide) qX0_14 (fun _ h => h) (Nat.le_of_ble_eq_true rfl) rfl dX0_find_1 ?_
  refine q_manyX2 (c := c) (e := e) F hA (fun ad' ds' cm' hfx he => iv_sel (owner := RX1) (N := 0) (As := []) F q660 q661 (va_Decl.of (F.ts _ q664) (F.ts _ q665)) q663 q664 (by decide +kernel) (fun H _ hP _ => by rw [← he]; exact hh_recv F.k.1 (hfx 1 _ rfl) (F.k.c rfl) H hP) rfl rfl dX0_find_4) (hc.imp (fun z => z.1) id) (by decide) (by omega) (by omega) (Nat.le_of_ble_eq_true rfl) ?_
  refine ro_pop F dX0_find_7 rfl ?_
  refine ro_aload_n F dX0_find_8 0 rfl ?_
  refine hq_getR F in_X0 (ci := 0) rfl 0 2 rfl (nh _ (by decide) (by decide)) (nh _ (by decide) (by decide)) 2 (by decide) qX0_23 (fun _ h => h) (Nat.le_of_ble_eq_true rfl) rfl dX0_find_9 ?_
  refine q_manyX3 (c := c) (e := e) F hA (fun ad' ds' cm' hfx he => iv_sel (owner := RX1) (N := 0) (As := []) F q705 q706 (va_Decl.of (F.ts _ q664) (F.ts _ q665)) q707 q664 (by decide +kernel) (fun H _ hP _ => by rw [← he]; exact hh_recv F.k.1 (hfx 2 _ rfl) (F.k.c rfl) H hP) rfl rfl dX0_find_12) (hc.imp (fun z => by rw [m2_f _ _ (by decide)]; exact z.2) id) (by decide) (by omega) (by omega) (Nat.le_of_ble_eq_true rfl) ?_
  refine ro_pop F dX0_find_15 rfl ?_
  generalize hm : m2 (m2 cm 1 4 (nI 1)) 2 4 (nI 1) = m
  have hfr : FrQ m := by rw [← hm]; exact ⟨by rw [m2_f _ _ (by decide), m2_self], m2_self _ _ _ _⟩
  have hnn : ∀ a, a ≠ 1 → a ≠ 2 → m a = cm a := fun a h1 h2 => by rw [← hm]; funext j; rw [m2_f _ _ h2, m2_f _ _ h1]
  have hn : ∀ a, a ≠ 1 → a ≠ 2 → nn m a = nn cm a := fun a h1 h2 => by unfold nn; rw [hnn a h1 h2]
  have hwy : wyQ m = wyQ cm := by funext k; unfold wyQ; rw [hnn _ (by omega) (by omega)]
  have heb : eQ3 m (nn m 42) = eQ3 cm (nn cm 42) := by funext k; unfold eQ3; rw [hn 42 (by decide) (by decide), hnn 42 (by decide) (by decide)]
  refine q_open (fun ad' ds' cm' h => ?_)
  obtain ⟨⟨q, N, hD⟩, ⟨s0, s1, s2, s3, s4⟩, hP⟩ := qa_dd (x := x) h hfr
  have e0 : ad' 0 = ad 0 := h.1 0 (nh _ (by decide) (by decide))
  refine Wd.pic hP ?_
  rw [← e0]
  refine tlX0_find x g ad' ds' (jk cm' m) _ _ _ _ _ _ _ q N hD (by rw [jk_rd (by decide)]; exact s0) (by rw [jk_rd (by decide)]; exact s1) (by rw [jk_rd (by decide)]; exact s2) (by rw [jk_rd (by decide)]; exact s3) (by rw [jk_rd (by decide)]; exact s4) _ _ _ _ (F.le (by decide)) hA (by omega) (by omega) ?_
  rw [jk_find _ _ _ _ _ (eQ3_ne m _)]
  have hfq : fX0_find (nn m 32) (nn m 42) (nn m 4) (nn m 5) (eQ3 m (nn m 42)) (wyQ m) m = fQ_find cm := by
    unfold fQ_find
    rw [hm, hwy, heb, hn 32 (by decide) (by decide), hn 42 (by decide) (by decide), hn 4 (by decide) (by decide), hn 5 (by decide) (by decide)]
  rw [hfq]
  refine q_close (qa_step (c2 := fQ_find cm) h hfr (fun r j hr => ?_)) ?_
  · rw [← hfq]
    exact congrFun (fr_fX0_find _ _ _ _ _ _ m r (by simp only [hdX2, hdX3] at hr; omega) (by simp only [hdX2, hdX3] at hr; omega) (by simp only [hdX2, hdX3] at hr; omega) (by simp only [hdX2, hdX3] at hr; omega) (by simp only [hdX2, hdX3] at hr; omega) (by simp only [hdX2, hdX3] at hr; omega)) j
  · exact hret _ _ _ _ _ (by omega) (by omega) dX0_find_251 ⟨rfl, rfl⟩
