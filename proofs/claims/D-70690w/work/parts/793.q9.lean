/-! the class over the lazy world: generated -/
noncomputable def rX0_draw_q (k : Int32) (what : Int32) (m : Mem) : Int32 := (if (rX0_isSaver_q k m) then (if ¬ ((what.toInt64) < 0) ∧ (¬ (1 < (what.toInt64))) then (rX0_drawOf_q k.toNatClampNeg what (fX0_isSaver_q m)) else (-2)) else (-2))
noncomputable def fX0_draw_q (k : Int32) (what : Int32) (m : Mem) : Mem := (if (rX0_isSaver_q k m) then (if ¬ ((what.toInt64) < 0) ∧ (¬ (1 < (what.toInt64))) then (fX0_drawOf_q k.toNatClampNeg (fX0_isSaver_q m)) else (fX0_isSaver_q m)) else (fX0_isSaver_q m))
theorem fr_fX0_draw_q (k : Int32) (what : Int32) (m : Mem) (f : Nat) (h0 : f % 64 ≠ 0) (h1 : f % 64 ≠ 1) (h2 : f % 64 ≠ 2) (h6 : f % 64 ≠ 6) (h7 : f % 64 ≠ 7) (h8 : f % 64 ≠ 8) (h9 : f % 64 ≠ 9) (h11 : f % 64 ≠ 11) : fX0_draw_q k what m f = m f := ite_fr (ite_fr ((fr_fX0_drawOf_q k.toNatClampNeg (fX0_isSaver_q m) f h0 h1 h2 h6 h7 h8 h9 h11).trans ((fr_fX0_isSaver_q  m f h1).trans (rfl))) ((fr_fX0_isSaver_q  m f h1).trans (rfl))) ((fr_fX0_isSaver_q  m f h1).trans (rfl))
theorem fq_fX0_draw_q (k : Int32) (what : Int32) (m : Mem) (h_ : FrQ m) : FrQ (fX0_draw_q k what m) := (frq_ite (frq_ite (fq_fX0_drawOf_q k.toNatClampNeg _ (fq_fX0_isSaver_q  _ h_)) (fq_fX0_isSaver_q  _ h_)) (fq_fX0_isSaver_q  _ h_))
set_option maxHeartbeats 4000000 in
set_option maxRecDepth 100000 in
theorem metX0_draw_q (l : Launch) (x : Hx) (M : Bool × Bool) (ad : Nat → Nat) (ds : Nat → Option Lay) (m : Mem) (c e : Nat) (k : Int32) (what : Int32) (hc : FrQ m ∨ (18 ≤ c ∧ 114 ≤ e)) : Cn l yX0_draw (ws_ yX0_draw cX0_draw 3 (some .int)) 17 (21 * (c + c)) (21 * (e + e)) [.ref (ad 0), .int k, .int what] (PicQ x M) (KC x) (hx_A x) (ad, ds, m) (fun rv_ w_ => rv_ = some (.int (rX0_draw_q k what m)) ∧ w_ = (ad, ds, (fX0_draw_q k what m))) := by
  refine cn_i (own := RX0) rfl (Nat.le_of_ble_eq_true rfl) rfl (fun g hgl hA F hret => ?_)
  refine Wd.eql (lv' := [(0, .ref (ad 0)), (1, .int k), (2, .int what)]) rfl ?_
  refine q_wf (fun hwf => ?_)
  obtain ⟨⟨hn0, lb0⟩, ⟨hn1, lb1⟩, ⟨hn2, lb2⟩, ⟨hn3, lb3⟩, ⟨hn4, lb4⟩⟩ := hwf
  refine ro_aload_n F dX0_draw_0 0 rfl ?_
  refine ro_iload_n F dX0_draw_1 1 rfl ?_
  refine hq_cV (c' := c) (e' := e) (rest := []) F hA (metX0_isSaver_q (gx_l g) x M ad ds m c e k (hc.imp (fun z => z.1) id)) cwX0_139 hdX0_isSaver rfl (Nat.le_of_ble_eq_true rfl) (Nat.le_of_ble_eq_true rfl) (by omega) (by omega) rfl (Nat.le_of_ble_eq_true rfl) dX0_draw_2 ?_
  have J26_5 : Wd (PicQ x M) g 3 (ad, ds, (if (rX0_isSaver_q k m) then (if ¬ ((what.toInt64) < 0) ∧ (¬ (1 < (what.toInt64))) then (fX0_drawOf_q k.toNatClampNeg (fX0_isSaver_q m)) else (fX0_isSaver_q m)) else (fX0_isSaver_q m))) ((0 + c) + 20 * (c + c)) ((0 + e) + 20 * (e + e)) 26 [] [.int (if (rX0_isSaver_q k m) then (if ¬ ((what.toInt64) < 0) ∧ (¬ (1 < (what.toInt64))) then (rX0_drawOf_q k.toNatClampNeg what (fX0_isSaver_q m)) else (-2)) else (-2))] := by
    exact hret _ _ _ _ _ _ (by omega) (by omega) dX0_draw_26 rfl ⟨congrArg (fun z => some (Value.int z)) (rfl), rfl⟩
  refine ro_if_eqB (tgt := 24) F dX0_draw_5 (by decide) (fun c5 => ?_) (fun c5 => ?_)
  · refine ro_bipush (v := (-2)) F dX0_draw_24 (by decide) ?_
    exact Wd.widen (k' := ((0 + c) + 20 * (c + c))) (n' := ((0 + e) + 20 * (e + e))) (by omega) (by omega) <| Wd.sub (lv' := []) [] rfl <| Wd.to J26_5 (by simp only [if_neg c5]) rfl (congrArg (fun z => ([Value.int z] : List Value)) (by simp only [if_neg c5]))
  · refine ro_iload_n F dX0_draw_8 2 rfl ?_
    refine hq_cS (rest := []) F hA (metX0_isTwo_q (gx_l g) x M ad ds (fX0_isSaver_q m) what ) cwX0_109 hdX0_isTwo.2 rfl (Nat.le_of_ble_eq_true rfl) (Nat.le_of_ble_eq_true rfl) (by omega) (by omega) rfl (Nat.le_of_ble_eq_true rfl) dX0_draw_9 ?_
    refine ro_if_eqB (tgt := 24) F dX0_draw_12 (by decide) (fun c12 => ?_) (fun c12 => ?_)
    · refine ro_bipush (v := (-2)) F dX0_draw_24 (by decide) ?_
      exact Wd.widen (k' := ((0 + c) + 20 * (c + c))) (n' := ((0 + e) + 20 * (e + e))) (by omega) (by omega) <| Wd.sub (lv' := []) [] rfl <| Wd.to J26_5 (by simp only [if_pos c5, if_neg c12]) rfl (congrArg (fun z => ([Value.int z] : List Value)) (by simp only [if_pos c5, if_neg c12]))
    · refine ro_aload_n F dX0_draw_15 0 rfl ?_
      refine ro_iload_n F dX0_draw_16 1 rfl ?_
      have hz_c5 := (manyN (by omega) c5).2
      refine ro_eqi (y := nI k.toNatClampNeg) ((manyN (by omega) c5).1) ?_
      refine ro_iload_n F dX0_draw_17 2 rfl ?_
      refine hq_cVW (c' := 20 * (c + c)) (e' := 20 * (e + e)) (rest := []) F hA (metX0_drawOf_q (gx_l g) x M ad ds (fX0_isSaver_q m) c e k.toNatClampNeg what (hc.imp (fun z => (fq_fX0_isSaver_q  _ z)) id) (by omega)) cwX0_292 hdX0_drawOf rfl (Nat.le_of_ble_eq_true rfl) (Nat.le_of_ble_eq_true rfl) (by omega) (by omega) rfl (Nat.le_of_ble_eq_true rfl) dX0_draw_18 ?_
      refine ro_goto (tgt := 26) F dX0_draw_21 (by decide) ?_
      exact Wd.sub (lv' := []) [] rfl <| Wd.to J26_5 (by simp only [if_pos c5, if_pos c12]) rfl (congrArg (fun z => ([Value.int z] : List Value)) (by simp only [if_pos c5, if_pos c12]))
noncomputable def rX0_never_q (m : Mem) : Int32 := (rX0_neverNow_q m)
noncomputable def fX0_never_q (m : Mem) : Mem := (fX0_neverNow_q m)
theorem fr_fX0_never_q (m : Mem) (f : Nat) (h0 : f % 64 ≠ 0) (h1 : f % 64 ≠ 1) (h2 : f % 64 ≠ 2) (h6 : f % 64 ≠ 6) (h7 : f % 64 ≠ 7) (h8 : f % 64 ≠ 8) (h9 : f % 64 ≠ 9) (h11 : f % 64 ≠ 11) : fX0_never_q m f = m f := (fr_fX0_neverNow_q  m f h0 h1 h2 h6 h7 h8 h9 h11).trans (rfl)
theorem fq_fX0_never_q (m : Mem) (h_ : FrQ m) : FrQ (fX0_never_q m) := (fq_fX0_neverNow_q  _ h_)
set_option maxHeartbeats 4000000 in
set_option maxRecDepth 100000 in
theorem metX0_never_q (l : Launch) (x : Hx) (M : Bool × Bool) (ad : Nat → Nat) (ds : Nat → Option Lay) (m : Mem) (c e : Nat)  (hc : FrQ m ∨ (18 ≤ c ∧ 114 ≤ e)) (hs : SeenOK m) : Cn l yX0_never (ws_ yX0_never cX0_never 1 (some .int)) 17 (8 * (c + c)) (8 * (e + e)) [.ref (ad 0)] (PicQ x M) (KC x) (hx_A x) (ad, ds, m) (fun rv_ w_ => rv_ = some (.int (rX0_never_q m)) ∧ w_ = (ad, ds, (fX0_never_q m))) := by
  refine cn_i (own := RX0) rfl (Nat.le_of_ble_eq_true rfl) rfl (fun g hgl hA F hret => ?_)
  refine Wd.eql (lv' := [(0, .ref (ad 0))]) rfl ?_
  refine q_wf (fun hwf => ?_)
  obtain ⟨⟨hn0, lb0⟩, ⟨hn1, lb1⟩, ⟨hn2, lb2⟩, ⟨hn3, lb3⟩, ⟨hn4, lb4⟩⟩ := hwf
  refine ro_aload_n F dX0_never_0 0 rfl ?_
  refine hq_cVW (c' := 8 * (c + c)) (e' := 8 * (e + e)) (rest := []) F hA (metX0_neverNow_q (gx_l g) x M ad ds m c e  (hc.imp (fun z => z) id) (SeenOK.fr hs (fun f hf => rfl))) cwX0_311 hdX0_neverNow rfl (Nat.le_of_ble_eq_true rfl) (Nat.le_of_ble_eq_true rfl) (by omega) (by omega) rfl (Nat.le_of_ble_eq_true rfl) dX0_never_1 ?_
  exact hret _ _ _ _ _ _ (by omega) (by omega) dX0_never_4 rfl ⟨congrArg (fun z => some (Value.int z)) (rfl), rfl⟩
noncomputable def rX0_rates_q (m : Mem) : Int32 := (rX0_ratesNow_q m)
noncomputable def fX0_rates_q (m : Mem) : Mem := (fX0_ratesNow_q m)
theorem fr_fX0_rates_q (m : Mem) (f : Nat) (h0 : f % 64 ≠ 0) (h1 : f % 64 ≠ 1) (h2 : f % 64 ≠ 2) (h3 : f % 64 ≠ 3) (h6 : f % 64 ≠ 6) (h7 : f % 64 ≠ 7) (h8 : f % 64 ≠ 8) (h9 : f % 64 ≠ 9) (h11 : f % 64 ≠ 11) : fX0_rates_q m f = m f := (fr_fX0_ratesNow_q  m f h0 h1 h2 h3 h6 h7 h8 h9 h11).trans (rfl)
theorem fq_fX0_rates_q (m : Mem) (h_ : FrQ m) : FrQ (fX0_rates_q m) := (fq_fX0_ratesNow_q  _ h_)
set_option maxHeartbeats 4000000 in
set_option maxRecDepth 100000 in
theorem metX0_rates_q (l : Launch) (x : Hx) (M : Bool × Bool) (ad : Nat → Nat) (ds : Nat → Option Lay) (m : Mem) (c e : Nat)  (hc : FrQ m ∨ (18 ≤ c ∧ 114 ≤ e)) (hs : SeenOK m) : Cn l yX0_rates (ws_ yX0_rates cX0_rates 1 (some .int)) 17 (10 * (c + c)) (10 * (e + e)) [.ref (ad 0)] (PicQ x M) (KC x) (hx_A x) (ad, ds, m) (fun rv_ w_ => rv_ = some (.int (rX0_rates_q m)) ∧ w_ = (ad, ds, (fX0_rates_q m))) := by
  refine cn_i (own := RX0) rfl (Nat.le_of_ble_eq_true rfl) rfl (fun g hgl hA F hret => ?_)
  refine Wd.eql (lv' := [(0, .ref (ad 0))]) rfl ?_
  refine q_wf (fun hwf => ?_)
  obtain ⟨⟨hn0, lb0⟩, ⟨hn1, lb1⟩, ⟨hn2, lb2⟩, ⟨hn3, lb3⟩, ⟨hn4, lb4⟩⟩ := hwf
  refine ro_aload_n F dX0_rates_0 0 rfl ?_
  refine hq_cVW (c' := 10 * (c + c)) (e' := 10 * (e + e)) (rest := []) F hA (metX0_ratesNow_q (gx_l g) x M ad ds m c e  (hc.imp (fun z => z) id) (SeenOK.fr hs (fun f hf => rfl))) cwX0_317 hdX0_ratesNow rfl (Nat.le_of_ble_eq_true rfl) (Nat.le_of_ble_eq_true rfl) (by omega) (by omega) rfl (Nat.le_of_ble_eq_true rfl) dX0_rates_1 ?_
  exact hret _ _ _ _ _ _ (by omega) (by omega) dX0_rates_4 rfl ⟨congrArg (fun z => some (Value.int z)) (rfl), rfl⟩
