/-! a text: read, many -/
section Q2
variable (l : Launch) (x : Hx) (ad : Nat → Nat) (ds : Nat → Option Lay) (cm : Mem)

set_option maxHeartbeats 4000000 in
theorem metX1_read_X3_f (hds : FixD ds) (hfr : cm 2 4 = nI 1) :
    Cn l yX1_read (ws_ yX1_read cX1_read 1 (some .int)) 11 0 0 [.ref (ad 2)] (PicH x) (KC x) (hx_A x) (ad, ds, cm) (fun rv_ w_ => rv_ = some (.int (cm 2 5)) ∧ w_ = (ad, ds, cm)) := by
  refine cn_i (own := RX1) rfl (Nat.le_of_ble_eq_true rfl) rfl (fun g hgl hA F hret => ?_)
  refine Wd.eql (lv' := [(0, .ref (ad 2))]) rfl ?_
  refine ro_aload_n F dX1_read_0 0 rfl ?_
  refine hh_get F F.k.1 in_X3 (F.k.c rfl) 2 (hds 2 _ rfl) 4 (by decide) qX1_29 (fun _ h => h) (Nat.le_of_ble_eq_true rfl) (v := .int (nI 1)) (congrArg Value.int hfr) dX1_read_1 ?_
  refine ro_if_neN (tgt := 15) F dX1_read_4 (by decide) (by decide) (fun _ => ?_) (fun z => absurd z (by decide))
  refine ro_aload_n F dX1_read_15 0 rfl ?_
  refine ro_iconst (v := nI 1) F dX1_read_16 (by decide) ?_
  refine hh_put F F.k.1 hA in_X3 tyX3 tyX3_ok nmX3 (F.k.c rfl) 2 (hds 2 _ rfl) (by decide) 4 (by decide) qX1_29 (fun _ h => h) (Nat.le_of_ble_eq_true rfl) rfl rfl rfl rfl dX1_read_17 ?_
  have em : m2 cm 2 4 (nI 1) = cm := by
    funext r j
    by_cases h : r = 2 ∧ j = 4
    · obtain ⟨h1, h2⟩ := h
      subst h1; subst h2
      rw [m2_self, hfr]
    · simp [m2, h]
  rw [em]
  refine ro_aload_n F dX1_read_20 0 rfl ?_
  refine hh_get F F.k.1 in_X3 (F.k.c rfl) 2 (hds 2 _ rfl) 5 (by decide) qX1_81 (fun _ h => h) (Nat.le_of_ble_eq_true rfl) (v := .int (cm 2 5)) rfl dX1_read_21 ?_
  exact hret _ _ _ _ _ _ (by decide) (by decide) dX1_read_24 rfl ⟨rfl, rfl⟩
set_option maxHeartbeats 4000000 in
theorem metX1_read_X3_u (hds : FixD ds) (ty n0 : Nat) (e0 : Nat → Nat) (bt : Nat → Nat) (hB : TxB cm 2 41 23 ty bt) (hmo : cm 2 1 = nI 8) (hls : lsX3 ds cm n0 e0) (hro : rfOX3 ds) (hfr : cm 2 4 = nI 0) :
    Cn l yX1_read (ws_ yX1_read cX1_read 1 (some .int)) 11 18 114 [.ref (ad 2)] (PicH x) (KC x) (hx_A x) (ad, ds, cm) (fun rv_ w_ => rv_ = some (.int (psX3 ty bt).2) ∧ ∃ ad' ds' cm', w_ = (ad', ds', m2 (m2 cm' 2 5 (psX3 ty bt).2) 2 4 (nI 1)) ∧ TkS 2 hdX3 ad ds cm ad' ds' cm' ∧ rdX3 ds' cm' bt (psX3 ty bt).1) := by
  have hS4 : ∀ r, hdX3 r → r % 64 = 32 ∨ r % 64 = 33 ∨ r % 64 = 42 ∨ r % 64 = 43 := fun r h => by rcases h with h | h <;> omega
  refine cn_i (own := RX1) rfl (Nat.le_of_ble_eq_true rfl) rfl (fun g hgl hA F hret => ?_)
  refine Wd.eql (lv' := [(0, .ref (ad 2))]) rfl ?_
  refine ro_aload_n F dX1_read_0 0 rfl ?_
  refine hh_get F F.k.1 in_X3 (F.k.c rfl) 2 (hds 2 _ rfl) 4 (by decide) qX1_29 (fun _ h => h) (Nat.le_of_ble_eq_true rfl) (v := .int (nI 0)) (congrArg Value.int hfr) dX1_read_1 ?_
  refine ro_if_neN (tgt := 15) F dX1_read_4 (by decide) (by decide) (fun z => absurd rfl z) (fun _ => ?_)
  refine ro_aload_n F dX1_read_7 0 rfl ?_
  refine ro_aload_n F dX1_read_8 0 rfl ?_
  refine ca_RW (rest := [.ref (ad 2)]) (by rw [hA]; exact KC_st x) F (fun q hq => by rw [hA]; exact hq) (metX1_reads_X3 (gx_l g) x ad ds cm hds ty n0 e0 bt hB hmo hls hro) (lw_methW q356) q81 (iv_privW (N := 0) (As := []) F q353 q1610 (F.k.2.2.2.2.2.2.1.2.1 _ (by decide)) q355 q356 (by decide +kernel) (fun H _ hP _ => by obtain ⟨c, c1, c2, -⟩ := hh_recv F.k.1 (hds 2 _ rfl) (F.k.c rfl) H hP; exact ⟨c, c1, c2⟩) rfl rfl dX1_read_9) (by decide) (by decide) (by decide) (by decide) (Nat.le_of_ble_eq_true rfl) (fun v w' hp => ?_)
  obtain ⟨e1, ad', ds', cm', e2, t1, e3⟩ := hp
  rw [e1, e2]
  have fx1 : FixD ds' := fix_tk hds t1 hS4
  have e4 : ad' 2 = ad 2 := t1.1 _ (by decide)
  refine Wd.eqs (st' := [.int (psX3 ty bt).2, .ref (ad' 2)]) (by rw [e4]; rfl) ?_
  refine Wd.eql (lv' := [(0, .ref (ad' 2))]) (by rw [e4]) ?_
  refine hh_put F F.k.1 hA in_X3 tyX3 tyX3_ok nmX3 (F.k.c rfl) 2 (fx1 2 _ rfl) (by decide) 5 (by decide) qX1_81 (fun _ h => h) (Nat.le_of_ble_eq_true rfl) rfl rfl rfl rfl dX1_read_12 ?_
  refine ro_aload_n F dX1_read_15 0 rfl ?_
  refine ro_iconst (v := nI 1) F dX1_read_16 (by decide) ?_
  refine hh_put F F.k.1 hA in_X3 tyX3 tyX3_ok nmX3 (F.k.c rfl) 2 (fx1 2 _ rfl) (by decide) 4 (by decide) qX1_29 (fun _ h => h) (Nat.le_of_ble_eq_true rfl) rfl rfl rfl rfl dX1_read_17 ?_
  refine ro_aload_n F dX1_read_20 0 rfl ?_
  refine hh_get F F.k.1 in_X3 (F.k.c rfl) 2 (fx1 2 _ rfl) 5 (by decide) qX1_81 (fun _ h => h) (Nat.le_of_ble_eq_true rfl) (v := .int (psX3 ty bt).2) (congrArg Value.int (by rw [m2_i _ _ (by decide), m2_self])) dX1_read_21 ?_
  exact hret _ _ _ _ _ _ (by decide) (by decide) dX1_read_24 rfl ⟨rfl, ad', ds', cm', rfl, t1, e3⟩
set_option maxHeartbeats 4000000 in
theorem metX1_many_X3_f (hds : FixD ds) (hfr : cm 2 4 = nI 1) (q N n : Nat) (e : Nat → Nat) (hL : LsD ds 42 q N n e) (hn : cm 42 2 = nI n) :
    Cn l yX1_many (ws_ yX1_many cX1_many 1 (some .int)) 12 0 0 [.ref (ad 2)] (PicH x) (KC x) (hx_A x) (ad, ds, cm) (fun rv_ w_ => rv_ = some (.int (nI n)) ∧ w_ = (ad, ds, cm)) := by
  refine cn_i (own := RX1) rfl (Nat.le_of_ble_eq_true rfl) rfl (fun g hgl hA F hret => ?_)
  refine Wd.eql (lv' := [(0, .ref (ad 2))]) rfl ?_
  refine ro_aload_n F dX1_many_0 0 rfl ?_
  refine ca_R (rest := []) (by rw [hA]; exact KC_st x) F (fun q hq => by rw [hA]; exact hq) (metX1_read_X3_f (gx_l g) x ad ds cm hds hfr) q352 q81 (iv_sel (owner := RX1) (N := 0) (As := []) F q666 q349 (va_Decl.of (F.ts _ q348) (F.ts _ q352)) q350 q348 (by decide +kernel) (fun H _ hP _ => hh_recv F.k.1 (hds 2 _ rfl) (F.k.c rfl) H hP) rfl rfl dX1_many_1) (by decide) (by decide) (by decide) (by decide) (Nat.le_of_ble_eq_true rfl) (fun v w' hp => ?_)
  rw [hp.1, hp.2]
  refine ro_pop F dX1_many_4 rfl ?_
  refine ro_aload_n F dX1_many_5 0 rfl ?_
  refine hh_get F F.k.1 in_X3 (F.k.c rfl) 2 (hds 2 _ rfl) 6 (by decide) qX1_12 (fun _ h => h) (Nat.le_of_ble_eq_true rfl) (v := .ref (ad 42)) rfl dX1_many_6 ?_
  refine cl_size F hA hL hn cwX1_55 (by decide) (by decide) (by decide) (Nat.le_of_ble_eq_true rfl) dX1_many_9 ?_
  exact hret _ _ _ _ _ _ (by decide) (by decide) dX1_many_12 rfl ⟨rfl, rfl⟩
set_option maxHeartbeats 4000000 in
theorem metX1_many_X3_u (hds : FixD ds) (ty n0 : Nat) (e0 : Nat → Nat) (bt : Nat → Nat) (hB : TxB cm 2 41 23 ty bt) (hmo : cm 2 1 = nI 8) (hls : lsX3 ds cm n0 e0) (hro : rfOX3 ds) (hfr : cm 2 4 = nI 0) :
    Cn l yX1_many (ws_ yX1_many cX1_many 1 (some .int)) 12 18 114 [.ref (ad 2)] (PicH x) (KC x) (hx_A x) (ad, ds, cm) (fun rv_ w_ => rv_ = some (.int (nI (psX3 ty bt).1)) ∧ ∃ ad' ds' cm', w_ = (ad', ds', m2 (m2 cm' 2 5 (psX3 ty bt).2) 2 4 (nI 1)) ∧ TkS 2 hdX3 ad ds cm ad' ds' cm' ∧ rdX3 ds' cm' bt (psX3 ty bt).1) := by
  have hS4 : ∀ r, hdX3 r → r % 64 = 32 ∨ r % 64 = 33 ∨ r % 64 = 42 ∨ r % 64 = 43 := fun r h => by rcases h with h | h <;> omega
  refine cn_i (own := RX1) rfl (Nat.le_of_ble_eq_true rfl) rfl (fun g hgl hA F hret => ?_)
  refine Wd.eql (lv' := [(0, .ref (ad 2))]) rfl ?_
  refine ro_aload_n F dX1_many_0 0 rfl ?_
  refine ca_R (rest := []) (by rw [hA]; exact KC_st x) F (fun q hq => by rw [hA]; exact hq) (metX1_read_X3_u (gx_l g) x ad ds cm hds ty n0 e0 bt hB hmo hls hro hfr) q352 q81 (iv_sel (owner := RX1) (N := 0) (As := []) F q666 q349 (va_Decl.of (F.ts _ q348) (F.ts _ q352)) q350 q348 (by decide +kernel) (fun H _ hP _ => hh_recv F.k.1 (hds 2 _ rfl) (F.k.c rfl) H hP) rfl rfl dX1_many_1) (by decide) (by decide) (by decide) (by decide) (Nat.le_of_ble_eq_true rfl) (fun v w' hp => ?_)
  obtain ⟨e1, ad', ds', cm', e2, t1, e3⟩ := hp
  rw [e1, e2]
  have fx1 : FixD ds' := fix_tk hds t1 hS4
  obtain ⟨q, N, g1, g2, g3⟩ := e3.1
  refine ro_pop F dX1_many_4 rfl ?_
  refine Wd.eql (lv' := [(0, .ref (ad' 2))]) (by rw [t1.1 2 (by decide)]) ?_
  refine ro_aload_n F dX1_many_5 0 rfl ?_
  refine hh_get F F.k.1 in_X3 (F.k.c rfl) 2 (fx1 2 _ rfl) 6 (by decide) qX1_12 (fun _ h => h) (Nat.le_of_ble_eq_true rfl) (v := .ref (ad' 42)) rfl dX1_many_6 ?_
  refine cl_size F hA g1 (by rw [m2_f _ _ (by decide), m2_f _ _ (by decide)]; exact g2) cwX1_55 (by decide) (by decide) (by decide) (Nat.le_of_ble_eq_true rfl) dX1_many_9 ?_
  exact hret _ _ _ _ _ _ (by decide) (by decide) dX1_many_12 rfl ⟨rfl, ad', ds', cm', rfl, t1, e3⟩
end Q2
