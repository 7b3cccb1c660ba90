/-! a text: reads -/
section Q2
variable (l : Launch) (x : Hx) (ad : Nat → Nat) (ds : Nat → Option Lay) (cm : Mem)

/-- how many bytes of a bad part are good -/
def gdX3 (ty : Nat) (bt : Nat → Nat) (a : Nat) : Nat := if dgO ty bt a then 1 else 0
theorem gdX3_bd {ty a : Nat} {bt : Nat → Nat} (h : ¬ okX3 ty bt a) : bdX3 ty bt a (gdX3 ty bt a) := by
  unfold gdX3 bdX3
  by_cases c1 : dgO ty bt a
  · rw [if_pos c1]
    exact Or.inr ⟨rfl, c1, fun c3 => h ⟨c1, c3⟩⟩
  · rw [if_neg c1]
    exact Or.inl ⟨rfl, c1⟩
/-- the rest of a text, read from a on, n parts being read: how many parts there are, the fault -/
def plX3 (ty : Nat) (bt : Nat → Nat) : Nat → Nat → Nat → Nat × Int32
  | 0, n, _ => (n, -1)
  | f + 1, n, a => if a < ty then (if scO ty bt a then (if n < 8 then (if okX3 ty bt (a + 1) then plX3 ty bt f (n + 1) (a + 1 + 2) else (0, nI (a + 1 + gdX3 ty bt (a + 1)))) else (0, nI (a + 1))) else (0, nI a)) else (n, -1)
/-- a text: how many parts, the fault -/
def psX3 (ty : Nat) (bt : Nat → Nat) : Nat × Int32 := if ty = 0 then (0, -1) else if okX3 ty bt 0 then plX3 ty bt 32 1 2 else (0, nI (gdX3 ty bt 0))
def rfOX3 (ds : Nat → Option Lay) : Prop := ∀ r L q, ds r = some L → hw_ref L q → drq 42 43 q → r = 43
def clX3 (ds : Nat → Option Lay) (n : Nat) : Prop := ∀ r, drq 42 43 r → (∀ k, k < n → r ≠ 42 + 64 * (k + 1)) → ds r = none
/-- the text is read: n parts -/
def rdX3 (ds : Nat → Option Lay) (cm : Mem) (bt : Nat → Nat) (n : Nat) : Prop :=
  lsX3 ds cm n (fun k => 42 + 64 * (k + 1)) ∧ (∀ k, k < n → elX3 ds cm (42 + 64 * (k + 1)) bt (3 * k)) ∧ (∀ k, n ≤ k → ds (42 + 64 * (k + 1)) = none) ∧ ds 107 = none ∧ rfOX3 ds ∧ clX3 ds n
abbrev hdX3 : Nat → Prop := fun r => r % 64 = 42 ∨ r % 64 = 43
theorem rdX3_next {ad ad' : Nat → Nat} {ds ds' : Nat → Option Lay} {cm cm' : Mem} {bt : Nat → Nat} {n : Nat} (h : rdX3 ds cm bt n) (t : TkS 2 (fun r => r = 42 + 64 * (n + 1) ∨ r = 42 ∨ r = 43) ad ds cm ad' ds' cm') (he : elX3 ds' cm' (42 + 64 * (n + 1)) bt (3 * n)) (hl : lsX3 ds' cm' (n + 1) (up1 (fun k => 42 + 64 * (k + 1)) n (42 + 64 * (n + 1)))) : rdX3 ds' cm' bt (n + 1) := by
  obtain ⟨h1, h2, h3, h4, h5, h6⟩ := h
  rw [up1_id rfl] at hl
  have hne : ∀ k, k ≠ n → ¬ ((42 + 64 * (k + 1) = 42 + 64 * (n + 1)) ∨ 42 + 64 * (k + 1) = 42 ∨ 42 + 64 * (k + 1) = 43) := fun k hk => by omega
  refine ⟨hl, fun k hk => ?_, fun k hk => ?_, ?_, fun r L q hr hq hd => ?_, fun r hr hk => by rw [t.2.1 r (fun z => by have z2 := hk n (by omega); unfold drq at hr; omega)]; exact h6 r hr (fun k hk' => hk k (by omega))⟩
  · by_cases e : k = n
    · rw [e]; exact he
    · unfold elX3
      rw [t.2.1 _ (hne k e), t.2.2 _ _ (hne k e) (by omega), t.2.2 _ _ (hne k e) (by omega)]
      exact h2 k (by omega)
  · rw [t.2.1 _ (hne k (by omega))]; exact h3 k (by omega)
  · rw [t.2.1 _ (by omega)]; exact h4
  · by_cases c1 : r = 43
    · exact c1
    · by_cases c2 : r = 42
      · obtain ⟨q0, N0, g1, -, g3⟩ := hl
        rw [c2, g1.1] at hr
        cases hr
        have hm : q = q0 := by
          have hq' : some (some q) ∈ ([none, some (some q0), none] : List (Option (Option Nat))) := hq
          simpa using hq'
        rcases g3 with ⟨e1, -⟩ | ⟨e1, -⟩ <;> unfold drq at hd <;> omega
      · by_cases c3 : r = 42 + 64 * (n + 1)
        · rw [c3, he.1] at hr
          cases hr
          have hq' : some (some q) ∈ ([none, none] : List (Option (Option Nat))) := hq
          simp at hq'
        · exact h5 r L q (by rw [← t.2.1 r (by omega)]; exact hr) hq hd
set_option maxHeartbeats 8000000 in
theorem metX1_reads_X3 (hds : FixD ds) (ty n0 : Nat) (e0 : Nat → Nat) (bt : Nat → Nat) (hB : TxB cm 2 41 23 ty bt) (hmo : cm 2 1 = nI 8) (hls : lsX3 ds cm n0 e0) (hro : rfOX3 ds) :
    Cn l yX1_reads (wsW_ yX1_reads cX1_reads 2 (some .int) [(12, 49, 50, 42)]) 10 18 114 [.ref (ad 2)] (PicH x) (KC x) (hx_A x) (ad, ds, cm) (fun rv_ w_ => rv_ = some (.int (psX3 ty bt).2) ∧ ∃ ad' ds' cm', w_ = (ad', ds', cm') ∧ TkS 2 hdX3 ad ds cm ad' ds' cm' ∧ rdX3 ds' cm' bt (psX3 ty bt).1) := by
  have hty := hB.2.1
  have hb : ∀ j, j < ty → bt j < 256 := fun j hj => (hB.2.2 j hj).1
  have hS4 : ∀ r, hdX3 r → r % 64 = 32 ∨ r % 64 = 33 ∨ r % 64 = 42 ∨ r % 64 = 43 := fun r h => by rcases h with h | h <;> omega
  have hnt : ¬ hdX3 2 := by decide
  have hnb : ¬ hdX3 41 := by decide
  refine cnw_iT (own := RX1) rfl (Nat.le_of_ble_eq_true rfl) rfl (fun g hgl hA F htab hret => ?_)
  refine Wd.eql (lv' := [(0, .ref (ad 2))]) rfl ?_
  -- behind a throw: the list is emptied, the place is told
  have fin : ∀ (k_ n_ : Nat) (ad1 : Nat → Nat) (ds1 : Nat → Option Lay) (cm1 : Mem) (n : Nat) (e : Nat → Nat) (v : Int32) (ad2 : Nat → Nat) (ds2 : Nat → Option Lay) (cm2 : Mem) (p : Nat), k_ ≤ 18 → n_ ≤ 114 → TkS 2 hdX3 ad ds cm ad1 ds1 cm1 → lsX3 ds1 cm1 n e → rfOX3 ds1 → p % 64 = 42 → p ≠ 42 → TkS 2 (fun r => r = 107 ∨ r = p) ad1 ds1 cm1 ad2 ds2 cm2 → ds2 107 = some tnL → cm2 107 6 = v → psX3 ty bt = (0, v) → Wd (PicH x) g 2 (ad2, ds2, cm2) k_ n_ 50 [(0, .ref (ad2 2))] [.ref (ad2 107)] := by
    intro k_ n_ ad1 ds1 cm1 n e v ad2 ds2 cm2 p hk_ hn_ t1 hl1 hr1 hp64 hp42 t2 htn hv hps
    obtain ⟨q, N, hL, hn, hq⟩ := hl1
    have t12 : TkS 2 hdX3 ad ds cm ad2 ds2 cm2 := t1.tr (t2.mo (fun r h => by rcases h with h | h <;> (rw [h]; first | exact Or.inr rfl | exact Or.inl hp64)))
    have fx2 : FixD ds2 := fix_tk hds t12 hS4
    have hns : ∀ r, r = 42 ∨ r = 43 ∨ r = 63 → ¬ (r = 107 ∨ r = p) := fun r h => by omega
    have hqq : q = 63 ∨ q = 43 := hq.imp (fun c => c.1) (fun c => c.1)
    have hL2 : LsD ds2 42 q N n e := ⟨by rw [t2.2.1 _ (hns _ (Or.inl rfl))]; exact hL.1, by rw [t2.2.1 q (hns _ (by omega))]; exact hL.2.1, hL.2.2⟩
    have hn2 : cm2 42 2 = nI n := by rw [t2.2.2 _ _ (hns _ (Or.inl rfl)) (by decide)]; exact hn
    have hqn : q % 64 < 60 ∨ n = 0 := by rcases hq with ⟨-, c, -⟩ | ⟨c, -⟩
                                         · exact Or.inr (by have := hL.2.2.1; omega)
                                         · exact Or.inl (by omega)
    refine ro_astore_n (lv' := [(0, .ref (ad2 2)), (1, .ref (ad2 107))]) F dX1_reads_50 (Nat.le_of_ble_eq_true rfl) [1, 0] rfl ?_
    refine ro_aload_n F dX1_reads_51 0 rfl ?_
    refine hh_get F F.k.1 in_X3 (F.k.c rfl) 2 (fx2 2 _ rfl) 6 (by decide) qX1_12 (fun _ h => h) (Nat.le_of_ble_eq_true rfl) (v := .ref (ad2 42)) rfl dX1_reads_52 ?_
    refine Wd.eqs (st' := ([] : List Value).reverse ++ .ref (ad2 42) :: []) rfl ?_
    refine ca_V (N := 0) (by rw [hA]; exact KC_st x) F (fun q hq => by rw [hA]; exact hq) (metJ2_clear (gx_l g) x ad2 ds2 cm2 42 q N n e hL2 hn2 (by decide) hqn (by omega)) cwX1_67 (hh_recv F.k.1 hL2.1 (F.k.c rfl)) (by decide +kernel) rfl (Nat.le_of_ble_eq_true rfl) (Nat.le_of_ble_eq_true rfl) (by omega) (by omega) (Nat.le_of_ble_eq_true rfl) dX1_reads_55 (fun v' w' hp => ?_)
    rw [hp.1, hp.2]
    refine ro_aload_n F dX1_reads_58 1 rfl ?_
    have hqt : 107 ≠ q := by omega
    refine hh_getN F F.k.1 in_X7 (F.k.c (i := 7) rfl) 107 (by rw [up1_n _ _ hqt]; exact htn) 6 (by decide) F.k.2.2.1.2.2.2.2.2.2.1 (fun _ h => h) (Nat.le_of_ble_eq_true rfl) (v := .int v) (by show Value.int (m2 (m2 cm2 42 0 (cm2 42 0 + 1)) 42 2 (nI 0) 107 6) = _; rw [m2_f _ _ (by decide), m2_f _ _ (by decide), hv]) dX1_reads_59 ?_
    refine wd_drop (a := 42) (b := 43) (fun r L q' hr hL' hq' hd => ?_) ?_
    · have hrp : ¬ (r = 107 ∨ r = p) := fun z => hr (by unfold drq; omega)
      by_cases c : r = q
      · rw [c, up1_s] at hL'
        cases hL'
        obtain ⟨j, hj⟩ := hq'
        cases hj
      · rw [up1_n _ _ c, t2.2.1 r hrp] at hL'
        have hra := hr1 r L q' hL' hq' hd
        rcases hq with ⟨-, -, c3⟩ | ⟨c3, -⟩
        · rw [hra, c3] at hL'; cases hL'
        · omega
    · have c2 : ∀ r j, r ≠ 42 → m2 (m2 cm2 42 0 (cm2 42 0 + 1)) 42 2 (nI 0) r j = cm2 r j := fun r j h => by rw [m2_f _ _ h, m2_f _ _ h]
      refine hret _ _ _ _ _ _ (by omega) (by omega) dX1_reads_62 rfl ⟨by rw [hps], ad2, _, _, rfl, t12.tr ⟨fun _ _ => rfl, fun r hr => ?_, fun r j hr _ => c2 r j (fun z => hr (by rw [z]; exact Or.inl rfl))⟩, ?_⟩
      · have hnd : ¬ drq 42 43 r := fun z => hr (by unfold drq at z; rcases z with z | z; exact Or.inl z.1; exact Or.inr z.1)
        rw [drp_n hnd]
        by_cases c : r = q
        · rw [c, up1_s]
          rcases hq with ⟨e1, e2, -⟩ | ⟨e1, -⟩
          · rw [hL2.2.1]
            congr 5
            funext j
            rw [if_neg (by have := hL.2.2.1; omega)]
          · exact absurd (Or.inr (by rw [c, e1])) hr
        · exact up1_n _ _ c
      · rw [hps]
        have hLf : LsD (drp 42 43 (up1 ds2 q (some (.inr (4, N, some (fun _ => none)))))) 42 q N 0 (fun k => 42 + 64 * (k + 1)) := ⟨by rw [drp_n (by unfold drq; decide), up1_n _ _ (by omega)]; exact hL2.1, by rw [drp_n (by unfold drq; omega), up1_s]; congr 5, Nat.zero_le _, hL.2.2.2⟩
        refine ⟨⟨q, N, hLf, m2_self _ _ _ _, hq.imp (fun c => ⟨c.1, c.2.1, ?_⟩) id⟩, fun k hk => absurd hk (by omega), fun k _ => drp_y (by unfold drq; omega), drp_y (by unfold drq; decide), fun r L q' hr hq' hd => ?_, fun r hr _ => drp_y hr⟩
        · rw [drp_n (by unfold drq; decide), up1_n _ _ (by omega), t2.2.1 _ (hns _ (by omega))]; exact c.2.2
        · obtain ⟨g1, g2⟩ := drp_s hr
          have hrp : ¬ (r = 107 ∨ r = p) := fun z => g1 (by unfold drq; omega)
          by_cases c : r = q
          · rw [c, up1_s] at g2
            cases g2
            obtain ⟨j, hj⟩ := hq'
            cases hj
          · rw [up1_n _ _ c, t2.2.1 r hrp] at g2
            exact hr1 r L q' g2 hq' hd
  -- at the loop's head
  have go : ∀ (f n a k_ n_ : Nat) (ad1 : Nat → Nat) (ds1 : Nat → Option Lay) (cm1 : Mem), ty ≤ a + f → a ≤ ty → n ≤ 8 → (a + 1 = 3 * n ∨ a = ty) → k_ ≤ 2 * n → n_ ≤ 13 * n → TkS 2 hdX3 ad ds cm ad1 ds1 cm1 → cm1 2 3 = nI a → rdX3 ds1 cm1 bt n → psX3 ty bt = plX3 ty bt f n a → Wd (PicH x) g 2 (ad1, ds1, cm1) k_ n_ 23 [(0, .ref (ad1 2))] [] := by
    intro f
    induction f with
    | zero =>
      intro n a k_ n_ ad1 ds1 cm1 hf ha hn8 hpos hk_ hn_ t1 hat hrd hps
      have fx1 : FixD ds1 := fix_tk hds t1 hS4
      have hB1 := txb_tk hB t1 hnt hnb (by decide)
      refine ro_aload_n F dX1_reads_23 0 rfl ?_
      refine hh_get F F.k.1 in_X3 (F.k.c rfl) 2 (fx1 2 _ rfl) 3 (by decide) qX1_33 (fun _ h => h) (Nat.le_of_ble_eq_true rfl) (v := .int (nI a)) (congrArg Value.int hat) dX1_reads_24 ?_
      refine ro_aload_n F dX1_reads_27 0 rfl ?_
      refine hh_get F F.k.1 in_X3 (F.k.c rfl) 2 (fx1 2 _ rfl) 2 (by decide) qX1_26 (fun _ h => h) (Nat.le_of_ble_eq_true rfl) (v := .int (nI ty)) (congrArg Value.int hB1.1) dX1_reads_28 ?_
      refine ro_icmp_geN (tgt := 48) F dX1_reads_31 (by decide) (by omega) (by omega) (fun _ => ?_) (fun z => absurd z (by omega))
      refine ro_iconst (v := -1) F dX1_reads_48 (by decide) ?_
      exact hret _ _ _ _ _ _ (by omega) (by omega) dX1_reads_49 rfl ⟨by rw [hps]; rfl, ad1, ds1, cm1, rfl, t1, by rw [hps]; exact hrd⟩
    | succ f ih =>
      intro n a k_ n_ ad1 ds1 cm1 hf ha hn8 hpos hk_ hn_ t1 hat hrd hps
      have fx1 : FixD ds1 := fix_tk hds t1 hS4
      have hB1 := txb_tk hB t1 hnt hnb (by decide)
      refine ro_aload_n F dX1_reads_23 0 rfl ?_
      refine hh_get F F.k.1 in_X3 (F.k.c rfl) 2 (fx1 2 _ rfl) 3 (by decide) qX1_33 (fun _ h => h) (Nat.le_of_ble_eq_true rfl) (v := .int (nI a)) (congrArg Value.int hat) dX1_reads_24 ?_
      refine ro_aload_n F dX1_reads_27 0 rfl ?_
      refine hh_get F F.k.1 in_X3 (F.k.c rfl) 2 (fx1 2 _ rfl) 2 (by decide) qX1_26 (fun _ h => h) (Nat.le_of_ble_eq_true rfl) (v := .int (nI ty)) (congrArg Value.int hB1.1) dX1_reads_28 ?_
      refine ro_icmp_geN (tgt := 48) F dX1_reads_31 (by decide) (by omega) (by omega) (fun z => ?_) (fun hlt => ?_)
      · refine ro_iconst (v := -1) F dX1_reads_48 (by decide) ?_
        have hpe : plX3 ty bt (f + 1) n a = (n, -1) := by unfold plX3; rw [if_neg (by omega)]
        exact hret _ _ _ _ _ _ (by omega) (by omega) dX1_reads_49 rfl ⟨by rw [hps, hpe], ad1, ds1, cm1, rfl, t1, by rw [hps, hpe]; exact hrd⟩
      · have hps1 : plX3 ty bt (f + 1) n a = if scO ty bt a then (if n < 8 then (if okX3 ty bt (a + 1) then plX3 ty bt f (n + 1) (a + 1 + 2) else (0, nI (a + 1 + gdX3 ty bt (a + 1)))) else (0, nI (a + 1))) else (0, nI a) := by
          show (if a < ty then _ else _) = _
          rw [if_pos hlt]
        have hpn : a + 1 = 3 * n := by omega
        have hfree : ds1 (42 + 64 * (n + 1)) = none := hrd.2.2.1 n (Nat.le_refl n)
        refine ro_aload_n F dX1_reads_34 0 rfl ?_
        refine ks_ldc F F.k.2.2.2.2.1.2.2.1 dX1_reads_35 ?_
        by_cases hsc : scO ty bt a
        · rw [if_pos hsc] at hps1
          refine ca_R (rest := []) (by rw [hA]; exact KC_st x) F (fun q hq => by rw [hA]; exact hq) (metX1_passes_X3 (gx_l g) x ad1 ds1 cm1 fx1 ty a 2 bt (by decide) hB1 hat hlt (sc_t hb hsc)) q457 q81 (iv_sel (owner := RX1) (N := 1) (As := [.ref (hx_sa x (64000 + 2))]) F q452 q454 (va_Decl.of (F.ts _ q453) (F.ts _ q457)) q455 q453 (by decide +kernel) (fun H _ hP _ => hh_recv F.k.1 (fx1 2 _ rfl) (F.k.c rfl) H hP) rfl rfl dX1_reads_37) (by decide) (by decide) (by omega) (by omega) (Nat.le_of_ble_eq_true rfl) (fun v w' hp => ?_)
          rw [hp.1, hp.2]
          refine ro_pop F dX1_reads_40 rfl ?_
          refine ro_aload_n F dX1_reads_41 0 rfl ?_
          have t1' : TkS 2 hdX3 ad ds cm ad1 ds1 (m2 cm1 2 3 (nI (a + 1))) := t1.tr tk_at
          have hB1' := hB1.at (by decide) (nI (a + 1))
          have hls1 : lsX3 ds1 (m2 cm1 2 3 (nI (a + 1))) n (fun k => 42 + 64 * (k + 1)) := by
            obtain ⟨q, N, g1, g2, g3⟩ := hrd.1
            exact ⟨q, N, g1, by rw [m2_f _ _ (by decide)]; exact g2, g3⟩
          have hmo1 : m2 cm1 2 3 (nI (a + 1)) 2 1 = nI 8 := by rw [m2_i _ _ (by decide), t1.2.2 _ _ hnt (by decide)]; exact hmo
          have inv : InvW (PicH x) g 2 (ad1, ds1, m2 cm1 2 3 (nI (a + 1))) (k_ + 0) (n_ + 0) 42 [(0, .ref (ad1 2))] [.ref (ad1 2)] [.ref (ad1 2)] [] yX1_next := iv_priv (N := 0) (As := []) F q362 q1611 (va_Decl.of (F.ts _ q364) (F.ts _ q365)) (F.k.2.2.2.2.2.2.1.2.1 _ (by decide)) q364 (by decide +kernel) (fun H _ hP _ => by obtain ⟨c, c1, c2, -⟩ := hh_recv F.k.1 (fx1 2 _ rfl) (F.k.c rfl) H hP; exact ⟨c, c1, c2⟩) rfl rfl dX1_reads_42
          have bad : ∀ o, (n = 8 ∧ o = 0) ∨ (n < 8 ∧ bdX3 ty bt (a + 1) o) → psX3 ty bt = (0, nI (a + 1 + o)) → Wd (PicH x) g 2 (ad1, ds1, m2 cm1 2 3 (nI (a + 1))) (k_ + 0) (n_ + 0) 42 [(0, .ref (ad1 2))] [.ref (ad1 2)] := by
            intro o ho hpo
            refine ca_X (rest := []) (by rw [hA]; exact KC_st x) F (fun q hq => by rw [hA]; exact hq) (mexX1_next_X3 (gx_l g) x ad1 ds1 _ fx1 ty (a + 1) (42 + 64 * (n + 1)) n o _ bt hB1' (m2_self _ _ _ _) hlt hmo1 hls1 hn8 ho (by omega) (by omega) hfree hrd.2.2.2.1) q365 q81 inv (by decide) (by decide) (by omega) (by omega) (Nat.le_of_ble_eq_true rfl) (fun t w' hp => ?_)
            obtain ⟨ad2, ds2, cm2, g1, g2, g3, g4, g5⟩ := hp
            rw [g1, g3]
            refine wt_catch F htab (by decide) (by decide) q357 (fun H hP => ?_) ?_
            · obtain ⟨cell, c1, c2, c3⟩ := hh_recv F.k.1 (p := 107) (ci := 7) g4 (F.k.c rfl) H hP
              exact ⟨cell, c1, c2, _, c3, va_asg _ _⟩
            · refine Wd.eql (lv' := [(0, .ref (ad2 2))]) (by rw [g2.1 2 (by omega)]) ?_
              exact fin _ _ ad1 ds1 _ n _ _ ad2 ds2 cm2 _ (by omega) (by omega) t1' hls1 hrd.2.2.2.2.1 (by omega) (by omega) g2 g4 g5 hpo
          by_cases h8 : n < 8
          · rw [if_pos h8] at hps1
            by_cases hok : okX3 ty bt (a + 1)
            · rw [if_pos hok] at hps1
              refine ca_R (rest := []) (by rw [hA]; exact KC_st x) F (fun q hq => by rw [hA]; exact hq) (metX1_next_X3 (gx_l g) x ad1 ds1 _ fx1 ty (a + 1) (42 + 64 * (n + 1)) n _ bt hB1' (m2_self _ _ _ _) hmo1 hls1 h8 hok (by omega) (by omega) hfree) q365 q81 inv (by decide) (by decide) (by omega) (by omega) (Nat.le_of_ble_eq_true rfl) (fun v w' hp => ?_)
              obtain ⟨g0, ad2, ds2, cm2, g1, g2, g3, g4, g5⟩ := hp
              rw [g0, g1]
              refine ro_goto (tgt := 23) F dX1_reads_45 (by decide) ?_
              refine Wd.eql (lv' := [(0, .ref (ad2 2))]) (by rw [g2.1 2 (by omega)]) ?_
              have hrd1 : rdX3 ds1 (m2 cm1 2 3 (nI (a + 1))) bt n := ⟨hls1, fun k hk => by
                unfold elX3
                rw [m2_f _ _ (by omega), m2_f _ _ (by omega)]
                exact hrd.2.1 k hk, hrd.2.2⟩
              refine ih (n + 1) (a + 1 + 2) _ _ ad2 ds2 cm2 (by omega) (by have := hok.2.1; omega) (by omega) (Or.inl (by omega)) (by omega) (by omega) (t1'.tr (g2.mo (fun r h => by rcases h with h | h | h <;> (rw [h]; first | exact Or.inl (by omega) | exact Or.inr rfl)))) g3 (rdX3_next hrd1 g2 (by rw [← hpn]; exact g4) g5) (hps.trans hps1)
            · rw [if_neg hok] at hps1
              exact bad _ (Or.inr ⟨h8, gdX3_bd hok⟩) (hps.trans hps1)
          · rw [if_neg h8] at hps1
            exact bad 0 (Or.inl ⟨by omega, rfl⟩) (hps.trans hps1)
        · rw [if_neg hsc] at hps1
          refine ca_X (rest := []) (by rw [hA]; exact KC_st x) F (fun q hq => by rw [hA]; exact hq) (mexX1_passes_X3 (gx_l g) x ad1 ds1 cm1 fx1 ty a 2 bt (by decide) hB1 hat ha (sc_f hb hsc) hrd.2.2.2.1 (fun r => r = 42 + 64 * (n + 1))) q457 q81 (iv_sel (owner := RX1) (N := 1) (As := [.ref (hx_sa x (64000 + 2))]) F q452 q454 (va_Decl.of (F.ts _ q453) (F.ts _ q457)) q455 q453 (by decide +kernel) (fun H _ hP _ => hh_recv F.k.1 (fx1 2 _ rfl) (F.k.c rfl) H hP) rfl rfl dX1_reads_37) (by decide) (by decide) (by omega) (by omega) (Nat.le_of_ble_eq_true rfl) (fun t w' hp => ?_)
          obtain ⟨ad2, ds2, cm2, g1, g2, g3, g4, g5⟩ := hp
          rw [g1, g3]
          refine wt_catch F htab (by decide) (by decide) q357 (fun H hP => ?_) ?_
          · obtain ⟨cell, c1, c2, c3⟩ := hh_recv F.k.1 (p := 107) (ci := 7) g4 (F.k.c rfl) H hP
            exact ⟨cell, c1, c2, _, c3, va_asg _ _⟩
          · refine Wd.eql (lv' := [(0, .ref (ad2 2))]) (by rw [g2.1 2 (by omega)]) ?_
            exact fin _ _ ad1 ds1 cm1 n _ _ ad2 ds2 cm2 _ (by omega) (by omega) t1 hrd.1 hrd.2.2.2.2.1 (by omega) (by omega) g2 g4 g5 (hps.trans hps1)
  -- from the start
  obtain ⟨q, N, hL, hn, hq⟩ := hls
  have hqn : q % 64 < 60 ∨ n0 = 0 := by rcases hq with ⟨-, c, -⟩ | ⟨c, -⟩
                                        · exact Or.inr (by have := hL.2.2.1; omega)
                                        · exact Or.inl (by omega)
  have hqq : q = 63 ∨ q = 43 := hq.imp (fun c => c.1) (fun c => c.1)
  refine ro_aload_n F dX1_reads_0 0 rfl ?_
  refine ro_iconst (v := nI 0) F dX1_reads_1 (by decide) ?_
  refine hh_put F F.k.1 hA in_X3 tyX3 tyX3_ok nmX3 (F.k.c rfl) 2 (hds 2 _ rfl) (by decide) 3 (by decide) qX1_33 (fun _ h => h) (Nat.le_of_ble_eq_true rfl) rfl rfl rfl rfl dX1_reads_2 ?_
  refine ro_aload_n F dX1_reads_5 0 rfl ?_
  refine hh_get F F.k.1 in_X3 (F.k.c rfl) 2 (hds 2 _ rfl) 6 (by decide) qX1_12 (fun _ h => h) (Nat.le_of_ble_eq_true rfl) (v := .ref (ad 42)) rfl dX1_reads_6 ?_
  refine Wd.eqs (st' := ([] : List Value).reverse ++ .ref (ad 42) :: []) rfl ?_
  refine ca_V (N := 0) (by rw [hA]; exact KC_st x) F (fun q hq => by rw [hA]; exact hq) (metJ2_clear (gx_l g) x ad ds _ 42 q N n0 e0 hL (by rw [m2_f _ _ (by decide)]; exact hn) (by decide) hqn (by omega)) cwX1_67 (hh_recv F.k.1 hL.1 (F.k.c rfl)) (by decide +kernel) rfl (Nat.le_of_ble_eq_true rfl) (Nat.le_of_ble_eq_true rfl) (by decide) (by decide) (Nat.le_of_ble_eq_true rfl) dX1_reads_9 (fun v' w' hp => ?_)
  rw [hp.1, hp.2]
  refine wd_drop (a := 42) (b := 43) (fun r L q' hr hL' hq' hd => ?_) ?_
  · by_cases c : r = q
    · rw [c, up1_s] at hL'
      cases hL'
      obtain ⟨j, hj⟩ := hq'
      cases hj
    · rw [up1_n _ _ c] at hL'
      have hra := hro r L q' hL' hq' hd
      rcases hq with ⟨-, -, c3⟩ | ⟨c3, -⟩
      · rw [hra, c3] at hL'; cases hL'
      · omega
  generalize hcm1 : m2 (m2 (m2 cm 2 3 (nI 0)) 42 0 (m2 cm 2 3 (nI 0) 42 0 + 1)) 42 2 (nI 0) = cm1
  generalize hds1 : drp 42 43 (up1 ds q (some (.inr (4, N, some (fun _ => none))))) = ds1
  have t1 : TkS 2 hdX3 ad ds cm ad ds1 cm1 := by
    refine ⟨fun _ _ => rfl, fun r hr => ?_, fun r j hr hj => ?_⟩
    · have hnd : ¬ drq 42 43 r := fun z => hr (by unfold drq at z; rcases z with z | z; exact Or.inl z.1; exact Or.inr z.1)
      rw [← hds1, drp_n hnd]
      by_cases c : r = q
      · rw [c, up1_s]
        rcases hq with ⟨e1, e2, -⟩ | ⟨e1, -⟩
        · rw [hL.2.1]
          congr 5
          funext j
          rw [if_neg (by have := hL.2.2.1; omega)]
        · exact absurd (Or.inr (by rw [c, e1])) hr
      · exact up1_n _ _ c
    · have hrl : r ≠ 42 := fun z => hr (by rw [z]; exact Or.inl rfl)
      rw [← hcm1, m2_f _ _ hrl, m2_f _ _ hrl]
      by_cases hr1 : r = 2
      · subst hr1
        exact m2_i _ _ (fun z => hj ⟨rfl, z⟩)
      · exact m2_f _ _ hr1
  have hat : cm1 2 3 = nI 0 := by rw [← hcm1, m2_f _ _ (by decide), m2_f _ _ (by decide), m2_self]
  have hLf : LsD ds1 42 q N 0 (fun k => 42 + 64 * (k + 1)) := by
    rw [← hds1]
    exact ⟨by rw [drp_n (by unfold drq; decide), up1_n _ _ (by omega)]; exact hL.1, by rw [drp_n (by unfold drq; omega), up1_s]; congr 5, Nat.zero_le _, hL.2.2.2⟩
  have hrd : rdX3 ds1 cm1 bt 0 := by
    refine ⟨⟨q, N, hLf, by rw [← hcm1]; exact m2_self _ _ _ _, hq.imp (fun c => ⟨c.1, c.2.1, ?_⟩) id⟩, fun k hk => absurd hk (by omega), fun k _ => by rw [← hds1]; exact drp_y (by unfold drq; omega), by rw [← hds1]; exact drp_y (by unfold drq; decide), fun r L q' hr hq' hd => ?_, fun r hr _ => by rw [← hds1]; exact drp_y hr⟩
    · rw [← hds1, drp_n (by unfold drq; decide), up1_n _ _ (by omega)]; exact c.2.2
    · rw [← hds1] at hr
      obtain ⟨g1, g2⟩ := drp_s hr
      by_cases c : r = q
      · rw [c, up1_s] at g2
        cases g2
        obtain ⟨j, hj⟩ := hq'
        cases hj
      · rw [up1_n _ _ c] at g2
        exact hro r L q' g2 hq' hd
  have fx1 : FixD ds1 := fix_tk hds t1 hS4
  have hB1 := txb_tk hB t1 hnt hnb (by decide)
  have hmo1 : cm1 2 1 = nI 8 := by rw [t1.2.2 _ _ hnt (by decide)]; exact hmo
  refine ro_aload_n F dX1_reads_12 0 rfl ?_
  refine hh_get F F.k.1 in_X3 (F.k.c rfl) 2 (fx1 2 _ rfl) 2 (by decide) qX1_26 (fun _ h => h) (Nat.le_of_ble_eq_true rfl) (v := .int (nI ty)) (congrArg Value.int hB1.1) dX1_reads_13 ?_
  refine ro_if_leN (tgt := 23) F dX1_reads_16 (by decide) (by omega) (fun z => ?_) (fun z => ?_)
  · exact go 0 0 0 _ _ ad ds1 cm1 (by omega) (by omega) (by decide) (Or.inr z.symm) (by decide) (by decide) t1 hat hrd (by unfold psX3; rw [if_pos z]; rfl)
  · refine ro_aload_n F dX1_reads_19 0 rfl ?_
    have hfree : ds1 (42 + 64 * (0 + 1)) = none := hrd.2.2.1 0 (Nat.le_refl 0)
    have inv : InvW (PicH x) g 2 (ad, ds1, cm1) (0 + 0) (0 + 0) 20 [(0, .ref (ad 2))] [.ref (ad 2)] [.ref (ad 2)] [] yX1_next := iv_priv (N := 0) (As := []) F q362 q1611 (va_Decl.of (F.ts _ q364) (F.ts _ q365)) (F.k.2.2.2.2.2.2.1.2.1 _ (by decide)) q364 (by decide +kernel) (fun H _ hP _ => by obtain ⟨c, c1, c2, -⟩ := hh_recv F.k.1 (fx1 2 _ rfl) (F.k.c rfl) H hP; exact ⟨c, c1, c2⟩) rfl rfl dX1_reads_20
    by_cases hok : okX3 ty bt 0
    · refine ca_R (rest := []) (by rw [hA]; exact KC_st x) F (fun q hq => by rw [hA]; exact hq) (metX1_next_X3 (gx_l g) x ad ds1 cm1 fx1 ty 0 (42 + 64 * (0 + 1)) 0 _ bt hB1 hat hmo1 hrd.1 (by decide) hok (by decide) (by decide) hfree) q365 q81 inv (by decide) (by decide) (by decide) (by decide) (Nat.le_of_ble_eq_true rfl) (fun v w' hp => ?_)
      obtain ⟨g0, ad2, ds2, cm2, g1, g2, g3, g4, g5⟩ := hp
      rw [g0, g1]
      refine Wd.eql (lv' := [(0, .ref (ad2 2))]) (by rw [g2.1 2 (by decide)]) ?_
      exact go 32 1 (0 + 2) _ _ ad2 ds2 cm2 (by omega) (by have := hok.2.1; omega) (by decide) (Or.inl (by decide)) (by decide) (by decide) (t1.tr (g2.mo (fun r h => by rcases h with h | h | h <;> (rw [h]; first | exact Or.inl (by decide) | exact Or.inr rfl)))) g3 (rdX3_next hrd g2 g4 g5) (by unfold psX3; rw [if_neg z, if_pos hok])
    · refine ca_X (rest := []) (by rw [hA]; exact KC_st x) F (fun q hq => by rw [hA]; exact hq) (mexX1_next_X3 (gx_l g) x ad ds1 cm1 fx1 ty 0 (42 + 64 * (0 + 1)) 0 (gdX3 ty bt 0) _ bt hB1 hat (Nat.zero_le _) hmo1 hrd.1 (by decide) (Or.inr ⟨by decide, gdX3_bd hok⟩) (by decide) (by decide) hfree hrd.2.2.2.1) q365 q81 inv (by decide) (by decide) (by decide) (by decide) (Nat.le_of_ble_eq_true rfl) (fun t w' hp => ?_)
      obtain ⟨ad2, ds2, cm2, g1, g2, g3, g4, g5⟩ := hp
      rw [g1, g3]
      refine wt_catch F htab (by decide) (by decide) q357 (fun H hP => ?_) ?_
      · obtain ⟨cell, c1, c2, c3⟩ := hh_recv F.k.1 (p := 107) (ci := 7) g4 (F.k.c rfl) H hP
        exact ⟨cell, c1, c2, _, c3, va_asg _ _⟩
      · refine Wd.eql (lv' := [(0, .ref (ad2 2))]) (by rw [g2.1 2 (by decide)]) ?_
        exact fin _ _ ad ds1 cm1 0 _ _ ad2 ds2 cm2 _ (by decide) (by decide) t1 hrd.1 hrd.2.2.2.2.1 (by decide) (by decide) g2 g4 g5 (by unfold psX3; rw [if_neg z, if_neg hok, Nat.zero_add])
end Q2
