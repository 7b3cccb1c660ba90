/-! the class over the lazy world: generated -/
theorem nI_cl {b : Int32} (h : b = -1 ∨ ∃ j, j < 8 ∧ b = nI j) (hc : ¬ b = (-1)) : b = nI b.toNatClampNeg := by
  obtain ⟨j, hj, e⟩ := h.resolve_left hc
  rw [e, nI_clamp (by omega)]
theorem nI_cl8 {b : Int32} (h : b = -1 ∨ ∃ j, j < 8 ∧ b = nI j) (hc : ¬ b = (-1)) : b.toNatClampNeg < 8 := by
  obtain ⟨j, hj, e⟩ := h.resolve_left hc
  rw [e, nI_clamp (by omega)]
  exact hj
abbrev rX0_isSaver_q (k : Int32) (m : Mem) : Prop := ¬ ((k.toInt64) < 0) ∧ (¬ ((((nI (nn m 32)) - (nI 1)).toInt64) < (k.toInt64)))
noncomputable def fX0_isSaver_q (m : Mem) : Mem := (m2 m 1 4 (nI 1))
theorem fr_fX0_isSaver_q (m : Mem) (f : Nat) (h1 : f % 64 ≠ 1) : fX0_isSaver_q m f = m f := (m2_ff _ _ (by omega)).trans (rfl)
theorem fq_fX0_isSaver_q (m : Mem) (h_ : FrQ m) : FrQ (fX0_isSaver_q m) := (frq_s1 h_)
set_option maxHeartbeats 4000000 in
set_option maxRecDepth 100000 in
theorem metX0_isSaver_q (l : Launch) (x : Hx) (M : Bool × Bool) (ad : Nat → Nat) (ds : Nat → Option Lay) (m : Mem) (c e : Nat) (k : Int32) (hc : m 1 4 = nI 1 ∨ (18 ≤ c ∧ 114 ≤ e)) : Cn l yX0_isSaver (ws_ yX0_isSaver cX0_isSaver 2 (some .boolean)) 13 c e [.ref (ad 0), .int k] (PicQ x M) (KC x) (hx_A x) (ad, ds, m) (fun rv_ w_ => rv_ = some (.int (b2 (rX0_isSaver_q k m))) ∧ w_ = (ad, ds, (fX0_isSaver_q m))) := by
  refine cn_i (own := RX0) rfl (Nat.le_of_ble_eq_true rfl) rfl (fun g hgl hA F hret => ?_)
  refine Wd.eql (lv' := [(0, .ref (ad 0)), (1, .int k)]) rfl ?_
  refine q_wf (fun hwf => ?_)
  obtain ⟨⟨hn0, lb0⟩, ⟨hn1, lb1⟩, ⟨hn2, lb2⟩, ⟨hn3, lb3⟩, ⟨hn4, lb4⟩⟩ := hwf
  refine ro_iload_n F dX0_isSaver_0 1 rfl ?_
  refine ro_i2l F dX0_isSaver_1 ?_
  refine ro_lconst (v := 0) F dX0_isSaver_2 (by decide) ?_
  refine ro_aload_n F dX0_isSaver_3 0 rfl ?_
  refine hq_getR F in_X0 (ci := 0) rfl 0 1 rfl (nhd (by decide)) (nhd (by decide)) 1 (by decide) qX0_14 (fun _ h => h) (Nat.le_of_ble_eq_true rfl) rfl dX0_isSaver_4 ?_
  refine q_many2U (c := c) (e := e) F hA (hc) (by decide) (by omega) (by omega) (Nat.le_of_ble_eq_true rfl) dX0_isSaver_7 hn0 ?_
  refine ro_iconst (v := (nI 1)) F dX0_isSaver_10 (by decide) ?_
  refine ro_isub F dX0_isSaver_11 ?_
  refine ro_i2l F dX0_isSaver_12 ?_
  refine hq_cS (rest := []) F hA (metX0_in_q (gx_l g) x M ad ds (m2 m 1 4 (nI 1)) (k.toInt64) 0 (((nI (nn m 32)) - (nI 1)).toInt64) ) cwX0_103 hdX0_in.2 rfl (Nat.le_of_ble_eq_true rfl) (Nat.le_of_ble_eq_true rfl) (by omega) (by omega) rfl (Nat.le_of_ble_eq_true rfl) dX0_isSaver_13 ?_
  exact hret _ _ _ _ _ _ (by omega) (by omega) dX0_isSaver_16 b2_nar ⟨congrArg (fun z => some (Value.int z)) (b2_congr Iff.rfl), rfl⟩
abbrev rX0_isPartner_q (k : Int32) (m : Mem) : Prop := ¬ ((k.toInt64) < 0) ∧ (¬ ((((nI (nn m 42)) - (nI 1)).toInt64) < (k.toInt64)))
noncomputable def fX0_isPartner_q (m : Mem) : Mem := (m2 m 2 4 (nI 1))
theorem fr_fX0_isPartner_q (m : Mem) (f : Nat) (h2 : f % 64 ≠ 2) : fX0_isPartner_q m f = m f := (m2_ff _ _ (by omega)).trans (rfl)
theorem fq_fX0_isPartner_q (m : Mem) (h_ : FrQ m) : FrQ (fX0_isPartner_q m) := (frq_s2 h_)
set_option maxHeartbeats 4000000 in
set_option maxRecDepth 100000 in
theorem metX0_isPartner_q (l : Launch) (x : Hx) (M : Bool × Bool) (ad : Nat → Nat) (ds : Nat → Option Lay) (m : Mem) (c e : Nat) (k : Int32) (hc : m 2 4 = nI 1 ∨ (18 ≤ c ∧ 114 ≤ e)) : Cn l yX0_isPartner (ws_ yX0_isPartner cX0_isPartner 2 (some .boolean)) 13 c e [.ref (ad 0), .int k] (PicQ x M) (KC x) (hx_A x) (ad, ds, m) (fun rv_ w_ => rv_ = some (.int (b2 (rX0_isPartner_q k m))) ∧ w_ = (ad, ds, (fX0_isPartner_q m))) := by
  refine cn_i (own := RX0) rfl (Nat.le_of_ble_eq_true rfl) rfl (fun g hgl hA F hret => ?_)
  refine Wd.eql (lv' := [(0, .ref (ad 0)), (1, .int k)]) rfl ?_
  refine q_wf (fun hwf => ?_)
  obtain ⟨⟨hn0, lb0⟩, ⟨hn1, lb1⟩, ⟨hn2, lb2⟩, ⟨hn3, lb3⟩, ⟨hn4, lb4⟩⟩ := hwf
  refine ro_iload_n F dX0_isPartner_0 1 rfl ?_
  refine ro_i2l F dX0_isPartner_1 ?_
  refine ro_lconst (v := 0) F dX0_isPartner_2 (by decide) ?_
  refine ro_aload_n F dX0_isPartner_3 0 rfl ?_
  refine hq_getR F in_X0 (ci := 0) rfl 0 2 rfl (nhd (by decide)) (nhd (by decide)) 2 (by decide) qX0_23 (fun _ h => h) (Nat.le_of_ble_eq_true rfl) rfl dX0_isPartner_4 ?_
  refine q_many3U (c := c) (e := e) F hA (hc) (by decide) (by omega) (by omega) (Nat.le_of_ble_eq_true rfl) dX0_isPartner_7 hn1 ?_
  refine ro_iconst (v := (nI 1)) F dX0_isPartner_10 (by decide) ?_
  refine ro_isub F dX0_isPartner_11 ?_
  refine ro_i2l F dX0_isPartner_12 ?_
  refine hq_cS (rest := []) F hA (metX0_in_q (gx_l g) x M ad ds (m2 m 2 4 (nI 1)) (k.toInt64) 0 (((nI (nn m 42)) - (nI 1)).toInt64) ) cwX0_103 hdX0_in.2 rfl (Nat.le_of_ble_eq_true rfl) (Nat.le_of_ble_eq_true rfl) (by omega) (by omega) rfl (Nat.le_of_ble_eq_true rfl) dX0_isPartner_13 ?_
  exact hret _ _ _ _ _ _ (by omega) (by omega) dX0_isPartner_16 b2_nar ⟨congrArg (fun z => some (Value.int z)) (b2_congr Iff.rfl), rfl⟩
abbrev rX0_isSaver_f (k : Int32) (m : Mem) : Prop := ¬ ((k.toInt64) < 0) ∧ (¬ ((((nI (nn m 32)) - (nI 1)).toInt64) < (k.toInt64)))
set_option maxHeartbeats 4000000 in
set_option maxRecDepth 100000 in
theorem metX0_isSaver_f (l : Launch) (x : Hx) (M : Bool × Bool) (ad : Nat → Nat) (ds : Nat → Option Lay) (m : Mem) (k : Int32) (hfr : FrQ m) : Cn l yX0_isSaver (ws_ yX0_isSaver cX0_isSaver 2 (some .boolean)) 13 0 0 [.ref (ad 0), .int k] (PicQ x M) (KC x) (hx_A x) (ad, ds, m) (fun rv_ w_ => rv_ = some (.int (b2 (rX0_isSaver_f k m))) ∧ w_ = (ad, ds, m)) := by
  refine cn_i (own := RX0) rfl (Nat.le_of_ble_eq_true rfl) rfl (fun g hgl hA F hret => ?_)
  refine Wd.eql (lv' := [(0, .ref (ad 0)), (1, .int k)]) rfl ?_
  refine q_wf (fun hwf => ?_)
  obtain ⟨⟨hn0, lb0⟩, ⟨hn1, lb1⟩, ⟨hn2, lb2⟩, ⟨hn3, lb3⟩, ⟨hn4, lb4⟩⟩ := hwf
  refine ro_iload_n F dX0_isSaver_0 1 rfl ?_
  refine ro_i2l F dX0_isSaver_1 ?_
  refine ro_lconst (v := 0) F dX0_isSaver_2 (by decide) ?_
  refine ro_aload_n F dX0_isSaver_3 0 rfl ?_
  refine hq_getR F in_X0 (ci := 0) rfl 0 1 rfl (nhd (by decide)) (nhd (by decide)) 1 (by decide) qX0_14 (fun _ h => h) (Nat.le_of_ble_eq_true rfl) rfl dX0_isSaver_4 ?_
  refine q_many2F F hA (hfr.1) (by decide) (by omega) (by omega) (Nat.le_of_ble_eq_true rfl) dX0_isSaver_7 hn0 ?_
  refine ro_iconst (v := (nI 1)) F dX0_isSaver_10 (by decide) ?_
  refine ro_isub F dX0_isSaver_11 ?_
  refine ro_i2l F dX0_isSaver_12 ?_
  refine hq_cS (rest := []) F hA (metX0_in_q (gx_l g) x M ad ds m (k.toInt64) 0 (((nI (nn m 32)) - (nI 1)).toInt64) ) cwX0_103 hdX0_in.2 rfl (Nat.le_of_ble_eq_true rfl) (Nat.le_of_ble_eq_true rfl) (by omega) (by omega) rfl (Nat.le_of_ble_eq_true rfl) dX0_isSaver_13 ?_
  exact hret _ _ _ _ _ _ (by omega) (by omega) dX0_isSaver_16 b2_nar ⟨congrArg (fun z => some (Value.int z)) (b2_congr Iff.rfl), rfl⟩
abbrev rX0_isPartner_f (k : Int32) (m : Mem) : Prop := ¬ ((k.toInt64) < 0) ∧ (¬ ((((nI (nn m 42)) - (nI 1)).toInt64) < (k.toInt64)))
set_option maxHeartbeats 4000000 in
set_option maxRecDepth 100000 in
theorem metX0_isPartner_f (l : Launch) (x : Hx) (M : Bool × Bool) (ad : Nat → Nat) (ds : Nat → Option Lay) (m : Mem) (k : Int32) (hfr : FrQ m) : Cn l yX0_isPartner (ws_ yX0_isPartner cX0_isPartner 2 (some .boolean)) 13 0 0 [.ref (ad 0), .int k] (PicQ x M) (KC x) (hx_A x) (ad, ds, m) (fun rv_ w_ => rv_ = some (.int (b2 (rX0_isPartner_f k m))) ∧ w_ = (ad, ds, m)) := by
  refine cn_i (own := RX0) rfl (Nat.le_of_ble_eq_true rfl) rfl (fun g hgl hA F hret => ?_)
  refine Wd.eql (lv' := [(0, .ref (ad 0)), (1, .int k)]) rfl ?_
  refine q_wf (fun hwf => ?_)
  obtain ⟨⟨hn0, lb0⟩, ⟨hn1, lb1⟩, ⟨hn2, lb2⟩, ⟨hn3, lb3⟩, ⟨hn4, lb4⟩⟩ := hwf
  refine ro_iload_n F dX0_isPartner_0 1 rfl ?_
  refine ro_i2l F dX0_isPartner_1 ?_
  refine ro_lconst (v := 0) F dX0_isPartner_2 (by decide) ?_
  refine ro_aload_n F dX0_isPartner_3 0 rfl ?_
  refine hq_getR F in_X0 (ci := 0) rfl 0 2 rfl (nhd (by decide)) (nhd (by decide)) 2 (by decide) qX0_23 (fun _ h => h) (Nat.le_of_ble_eq_true rfl) rfl dX0_isPartner_4 ?_
  refine q_many3F F hA (hfr.2) (by decide) (by omega) (by omega) (Nat.le_of_ble_eq_true rfl) dX0_isPartner_7 hn1 ?_
  refine ro_iconst (v := (nI 1)) F dX0_isPartner_10 (by decide) ?_
  refine ro_isub F dX0_isPartner_11 ?_
  refine ro_i2l F dX0_isPartner_12 ?_
  refine hq_cS (rest := []) F hA (metX0_in_q (gx_l g) x M ad ds m (k.toInt64) 0 (((nI (nn m 42)) - (nI 1)).toInt64) ) cwX0_103 hdX0_in.2 rfl (Nat.le_of_ble_eq_true rfl) (Nat.le_of_ble_eq_true rfl) (by omega) (by omega) rfl (Nat.le_of_ble_eq_true rfl) dX0_isPartner_13 ?_
  exact hret _ _ _ _ _ _ (by omega) (by omega) dX0_isPartner_16 b2_nar ⟨congrArg (fun z => some (Value.int z)) (b2_congr Iff.rfl), rfl⟩
noncomputable def lX0_allHeard_q_4 (m : Mem) (i4 : Nat) (b4 : Int32) : Int32 := (b4 + (rX0_heardInAll_q i4 m))
noncomputable def rX0_allHeard_q (m : Mem) : Int32 := (it (lX0_allHeard_q_4 m) (nI 0) (nn m 32))
set_option maxHeartbeats 4000000 in
set_option maxRecDepth 100000 in
theorem metX0_allHeard_q (l : Launch) (x : Hx) (M : Bool × Bool) (ad : Nat → Nat) (ds : Nat → Option Lay) (m : Mem)  (hfr : FrQ m) : Cn l yX0_allHeard (ws_ yX0_allHeard cX0_allHeard 3 (some .int)) 13 0 0 [.ref (ad 0)] (PicQ x M) (KC x) (hx_A x) (ad, ds, m) (fun rv_ w_ => rv_ = some (.int (rX0_allHeard_q m)) ∧ w_ = (ad, ds, m)) := by
  refine cn_i (own := RX0) rfl (Nat.le_of_ble_eq_true rfl) rfl (fun g hgl hA F hret => ?_)
  refine Wd.eql (lv' := [(0, .ref (ad 0))]) rfl ?_
  refine q_wf (fun hwf => ?_)
  obtain ⟨⟨hn0, lb0⟩, ⟨hn1, lb1⟩, ⟨hn2, lb2⟩, ⟨hn3, lb3⟩, ⟨hn4, lb4⟩⟩ := hwf
  refine ro_iconst (v := (nI 0)) F dX0_allHeard_0 (by decide) ?_
  refine ro_istore_n (lv' := [(0, .ref (ad 0)), (1, .int (nI 0))]) F dX0_allHeard_1 (Nat.le_of_ble_eq_true rfl) [1, 0] rfl ?_
  refine ro_iconst (v := (nI 0)) F dX0_allHeard_2 (by decide) ?_
  refine ro_istore_n (lv' := [(0, .ref (ad 0)), (1, .int (nI 0)), (2, .int (nI 0))]) F dX0_allHeard_3 (Nat.le_of_ble_eq_true rfl) [1, 2, 0] rfl ?_
  refine it_loop (nn m 32) (lX0_allHeard_q_4 m) (nI 0) (fun _ _ => True) (fun (i4 : Nat) (b4 : Int32) => Wd (PicQ x M) g 3 (ad, ds, m) 0 0 4 [(0, .ref (ad 0)), (1, .int b4), (2, .int (nI i4))] []) trivial (fun _ _ _ _ => trivial) (fun i4 b4 hi4 hf4 ih4 => ?_) (fun b4 hf4 he4 => ?_)
  · refine ro_iload_n F dX0_allHeard_4 2 rfl ?_
    refine ro_aload_n F dX0_allHeard_5 0 rfl ?_
    refine hq_getR F in_X0 (ci := 0) rfl 0 1 rfl (nhd (by decide)) (nhd (by decide)) 1 (by decide) qX0_14 (fun _ h => h) (Nat.le_of_ble_eq_true rfl) rfl dX0_allHeard_6 ?_
    refine q_many2F F hA (hfr.1) (by decide) (by omega) (by omega) (Nat.le_of_ble_eq_true rfl) dX0_allHeard_9 hn0 ?_
    refine ro_icmp_geN (tgt := 29) F dX0_allHeard_12 (by decide) (by omega) (by omega) (fun c12 => absurd c12 (by omega)) (fun c12 => ?_)
    refine ro_iload_n F dX0_allHeard_15 1 rfl ?_
    refine ro_aload_n F dX0_allHeard_16 0 rfl ?_
    refine ro_iload_n F dX0_allHeard_17 2 rfl ?_
    refine hq_cV (c' := 0) (e' := 0) (rest := [.int b4]) F hA (metX0_heardInAll_q (gx_l g) x M ad ds m i4 (by omega)) cwX0_283 hdX0_heardInAll rfl (Nat.le_of_ble_eq_true rfl) (Nat.le_of_ble_eq_true rfl) (by omega) (by omega) rfl (Nat.le_of_ble_eq_true rfl) dX0_allHeard_18 ?_
    refine ro_iadd F dX0_allHeard_21 ?_
    refine ro_istore_n (lv' := [(0, .ref (ad 0)), (1, .int (b4 + (rX0_heardInAll_q i4 m))), (2, .int (nI i4))]) F dX0_allHeard_22 (Nat.le_of_ble_eq_true rfl) [1, 0, 2] rfl ?_
    refine ro_iincN (z := 1) (lv' := [(0, .ref (ad 0)), (1, .int (b4 + (rX0_heardInAll_q i4 m))), (2, .int (nI (i4 + 1)))]) F dX0_allHeard_23 2 rfl (Nat.le_of_ble_eq_true rfl) [1, 2, 0] rfl ?_
    refine ro_goto (tgt := 4) F dX0_allHeard_26 (by decide) ?_
    exact ih4
  subst he4
  refine ro_iload_n F dX0_allHeard_4 2 rfl ?_
  refine ro_aload_n F dX0_allHeard_5 0 rfl ?_
  refine hq_getR F in_X0 (ci := 0) rfl 0 1 rfl (nhd (by decide)) (nhd (by decide)) 1 (by decide) qX0_14 (fun _ h => h) (Nat.le_of_ble_eq_true rfl) rfl dX0_allHeard_6 ?_
  refine q_many2F F hA (hfr.1) (by decide) (by omega) (by omega) (Nat.le_of_ble_eq_true rfl) dX0_allHeard_9 hn0 ?_
  refine ro_icmp_geN (tgt := 29) F dX0_allHeard_12 (by decide) (by omega) (by omega) (fun c12 => ?_) (fun c12 => absurd c12 (by omega))
  refine ro_iload_n F dX0_allHeard_29 1 rfl ?_
  exact hret _ _ _ _ _ _ (by omega) (by omega) dX0_allHeard_30 rfl ⟨congrArg (fun z => some (Value.int z)) (rfl), rfl⟩
noncomputable def lX0_mostNow_q_4 (m : Mem) (i4 : Nat) (b4 : Int32) : Int32 := (if b4 = (-1) then (nI i4) else (if (rX0_heardInAll_q i4 m) ≤ (rX0_heardInAll_q b4.toNatClampNeg m) then b4 else (nI i4)))
noncomputable def rX0_mostNow_q (m : Mem) : Int32 := (it (lX0_mostNow_q_4 m) (-1) (nn m 32))
set_option maxHeartbeats 4000000 in
set_option maxRecDepth 100000 in
theorem metX0_mostNow_q (l : Launch) (x : Hx) (M : Bool × Bool) (ad : Nat → Nat) (ds : Nat → Option Lay) (m : Mem)  (hfr : FrQ m) : Cn l yX0_mostNow (ws_ yX0_mostNow cX0_mostNow 3 (some .int)) 13 0 0 [.ref (ad 0)] (PicQ x M) (KC x) (hx_A x) (ad, ds, m) (fun rv_ w_ => rv_ = some (.int (rX0_mostNow_q m)) ∧ w_ = (ad, ds, m)) := by
  refine cn_i (own := RX0) rfl (Nat.le_of_ble_eq_true rfl) rfl (fun g hgl hA F hret => ?_)
  refine Wd.eql (lv' := [(0, .ref (ad 0))]) rfl ?_
  refine q_wf (fun hwf => ?_)
  obtain ⟨⟨hn0, lb0⟩, ⟨hn1, lb1⟩, ⟨hn2, lb2⟩, ⟨hn3, lb3⟩, ⟨hn4, lb4⟩⟩ := hwf
  refine ro_iconst (v := (-1)) F dX0_mostNow_0 (by decide) ?_
  refine ro_istore_n (lv' := [(0, .ref (ad 0)), (1, .int (-1))]) F dX0_mostNow_1 (Nat.le_of_ble_eq_true rfl) [1, 0] rfl ?_
  refine ro_iconst (v := (nI 0)) F dX0_mostNow_2 (by decide) ?_
  refine ro_istore_n (lv' := [(0, .ref (ad 0)), (1, .int (-1)), (2, .int (nI 0))]) F dX0_mostNow_3 (Nat.le_of_ble_eq_true rfl) [1, 2, 0] rfl ?_
  refine it_loop (nn m 32) (lX0_mostNow_q_4 m) (-1) (fun (i4 : Nat) (b4 : Int32) => (True) ∧ (b4 = -1 ∨ ∃ j, j < 8 ∧ b4 = nI j)) (fun (i4 : Nat) (b4 : Int32) => Wd (PicQ x M) g 3 (ad, ds, m) 0 0 4 [(0, .ref (ad 0)), (1, .int b4), (2, .int (nI i4))] []) ⟨trivial, Or.inl rfl⟩ (fun i4 b4 hlt hb => ⟨trivial, by
    unfold lX0_mostNow_q_4; repeat' split
    all_goals first | exact Or.inr ⟨_, by omega, rfl⟩ | exact hb.2⟩) (fun i4 b4 hi4 hf4 ih4 => ?_) (fun b4 hf4 he4 => ?_)
  · obtain ⟨hf4, hx4⟩ := hf4
    refine ro_iload_n F dX0_mostNow_4 2 rfl ?_
    refine ro_aload_n F dX0_mostNow_5 0 rfl ?_
    refine hq_getR F in_X0 (ci := 0) rfl 0 1 rfl (nhd (by decide)) (nhd (by decide)) 1 (by decide) qX0_14 (fun _ h => h) (Nat.le_of_ble_eq_true rfl) rfl dX0_mostNow_6 ?_
    refine q_many2F F hA (hfr.1) (by decide) (by omega) (by omega) (Nat.le_of_ble_eq_true rfl) dX0_mostNow_9 hn0 ?_
    refine ro_icmp_geN (tgt := 41) F dX0_mostNow_12 (by decide) (by omega) (by omega) (fun c12 => absurd c12 (by omega)) (fun c12 => ?_)
    refine ro_iload_n F dX0_mostNow_15 1 rfl ?_
    refine ro_iconst (v := (-1)) F dX0_mostNow_16 (by decide) ?_
    have J35_17 : Wd (PicQ x M) g 3 (ad, ds, m) 0 0 35 [(0, .ref (ad 0)), (1, .int (if b4 = (-1) then (nI i4) else (if (rX0_heardInAll_q i4 m) ≤ (rX0_heardInAll_q b4.toNatClampNeg m) then b4 else (nI i4)))), (2, .int (nI i4))] [] := by
      refine ro_iincN (z := 1) (lv' := [(0, .ref (ad 0)), (1, .int (if b4 = (-1) then (nI i4) else (if (rX0_heardInAll_q i4 m) ≤ (rX0_heardInAll_q b4.toNatClampNeg m) then b4 else (nI i4)))), (2, .int (nI (i4 + 1)))]) F dX0_mostNow_35 2 rfl (Nat.le_of_ble_eq_true rfl) [1, 2, 0] rfl ?_
      refine ro_goto (tgt := 4) F dX0_mostNow_38 (by decide) ?_
      exact ih4
    refine ro_icmp_eq (tgt := 33) F dX0_mostNow_17 (by decide) (fun c17 => ?_) (fun c17 => ?_)
    · refine ro_iload_n F dX0_mostNow_33 2 rfl ?_
      refine ro_istore_n (lv' := [(0, .ref (ad 0)), (1, .int (nI i4)), (2, .int (nI i4))]) F dX0_mostNow_34 (Nat.le_of_ble_eq_true rfl) [1, 0, 2] rfl ?_
      exact Wd.to J35_17 rfl (congrArg (fun z => ([(0, .ref (ad 0)), (1, Value.int z), (2, .int (nI i4))] : Lv)) (by simp only [if_pos c17])) rfl
    · refine ro_aload_n F dX0_mostNow_20 0 rfl ?_
      refine ro_iload_n F dX0_mostNow_21 2 rfl ?_
      refine hq_cV (c' := 0) (e' := 0) (rest := []) F hA (metX0_heardInAll_q (gx_l g) x M ad ds m i4 (by omega)) cwX0_283 hdX0_heardInAll rfl (Nat.le_of_ble_eq_true rfl) (Nat.le_of_ble_eq_true rfl) (by omega) (by omega) rfl (Nat.le_of_ble_eq_true rfl) dX0_mostNow_22 ?_
      refine ro_aload_n F dX0_mostNow_25 0 rfl ?_
      refine ro_iload_n F dX0_mostNow_26 1 rfl ?_
      have hz9 := nI_cl8 hx4 c17
      refine ro_eqi (y := nI b4.toNatClampNeg) (nI_cl hx4 c17) ?_
      refine hq_cV (c' := 0) (e' := 0) (rest := [.int (rX0_heardInAll_q i4 m)]) F hA (metX0_heardInAll_q (gx_l g) x M ad ds m b4.toNatClampNeg (by omega)) cwX0_283 hdX0_heardInAll rfl (Nat.le_of_ble_eq_true rfl) (Nat.le_of_ble_eq_true rfl) (by omega) (by omega) rfl (Nat.le_of_ble_eq_true rfl) dX0_mostNow_27 ?_
      refine ro_icmp_le (tgt := 35) F dX0_mostNow_30 (by decide) (fun c30 => ?_) (fun c30 => ?_)
      · exact Wd.to J35_17 rfl (congrArg (fun z => ([(0, .ref (ad 0)), (1, Value.int z), (2, .int (nI i4))] : Lv)) (by simp only [if_neg c17, if_pos c30])) rfl
      · refine ro_iload_n F dX0_mostNow_33 2 rfl ?_
        refine ro_istore_n (lv' := [(0, .ref (ad 0)), (1, .int (nI i4)), (2, .int (nI i4))]) F dX0_mostNow_34 (Nat.le_of_ble_eq_true rfl) [1, 0, 2] rfl ?_
        exact Wd.to J35_17 rfl (congrArg (fun z => ([(0, .ref (ad 0)), (1, Value.int z), (2, .int (nI i4))] : Lv)) (by simp only [if_neg c17, if_neg c30])) rfl
  subst he4
  obtain ⟨hf4, hx4⟩ := hf4
  refine ro_iload_n F dX0_mostNow_4 2 rfl ?_
  refine ro_aload_n F dX0_mostNow_5 0 rfl ?_
  refine hq_getR F in_X0 (ci := 0) rfl 0 1 rfl (nhd (by decide)) (nhd (by decide)) 1 (by decide) qX0_14 (fun _ h => h) (Nat.le_of_ble_eq_true rfl) rfl dX0_mostNow_6 ?_
  refine q_many2F F hA (hfr.1) (by decide) (by omega) (by omega) (Nat.le_of_ble_eq_true rfl) dX0_mostNow_9 hn0 ?_
  refine ro_icmp_geN (tgt := 41) F dX0_mostNow_12 (by decide) (by omega) (by omega) (fun c12 => ?_) (fun c12 => absurd c12 (by omega))
  refine ro_iload_n F dX0_mostNow_41 1 rfl ?_
  exact hret _ _ _ _ _ _ (by omega) (by omega) dX0_mostNow_42 rfl ⟨congrArg (fun z => some (Value.int z)) (rfl), rfl⟩
