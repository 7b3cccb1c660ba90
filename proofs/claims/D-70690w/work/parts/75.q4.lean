/-! the class over the lazy world: generated -/
noncomputable def rX0_run_q (m : Mem) : Int32 := ((fQ_find m) 0 10)
noncomputable def fX0_run_q (m : Mem) : Mem := (fQ_find m)
theorem fr_fX0_run_q (m : Mem) (f : Nat) (h0 : f % 64 ≠ 0) (h1 : f % 64 ≠ 1) (h2 : f % 64 ≠ 2) (h6 : f % 64 ≠ 6) (h7 : f % 64 ≠ 7) (h8 : f % 64 ≠ 8) (h9 : f % 64 ≠ 9) (h11 : f % 64 ≠ 11) : fX0_run_q m f = m f := (fr_fQ_find  m f h0 h1 h2 h6 h7 h8 h9 h11).trans (rfl)
theorem fq_fX0_run_q (m : Mem) (h_ : FrQ m) : FrQ (fX0_run_q m) := (fQ_fr _)
set_option maxHeartbeats 4000000 in
set_option maxRecDepth 100000 in
theorem metX0_run_q (l : Launch) (x : Hx) (M : Bool × Bool) (ad : Nat → Nat) (ds : Nat → Option Lay) (m : Mem) (c e : Nat)  (hc : FrQ m ∨ (18 ≤ c ∧ 114 ≤ e)) : Cn l yX0_run (ws_ yX0_run cX0_run 1 (some .int)) 15 (c + c) (e + e) [.ref (ad 0)] (PicQ x M) (KC x) (hx_A x) (ad, ds, m) (fun rv_ w_ => rv_ = some (.int (rX0_run_q m)) ∧ w_ = (ad, ds, (fX0_run_q m))) := by
  refine cn_i (own := RX0) rfl (Nat.le_of_ble_eq_true rfl) rfl (fun g hgl hA F hret => ?_)
  refine Wd.eql (lv' := [(0, .ref (ad 0))]) rfl ?_
  refine q_wf (fun hwf => ?_)
  obtain ⟨⟨hn0, lb0⟩, ⟨hn1, lb1⟩, ⟨hn2, lb2⟩, ⟨hn3, lb3⟩, ⟨hn4, lb4⟩⟩ := hwf
  refine ro_aload_n F dX0_run_0 0 rfl ?_
  refine hq_cV (rest := []) F hA (metX0_find_q (gx_l g) x M ad ds m c e (hc.imp (fun z => z) id)) cwX0_276 hdX0_find rfl (Nat.le_of_ble_eq_true rfl) (Nat.le_of_ble_eq_true rfl) (by omega) (by omega) rfl (Nat.le_of_ble_eq_true rfl) dX0_run_1 ?_
  refine ro_aload_n F dX0_run_4 0 rfl ?_
  refine hq_get F in_X0 (ci := 0) rfl 0 rfl (by decide) 10 (by decide) (by decide) qX0_252 (fun _ h => h) (Nat.le_of_ble_eq_true rfl) rfl rfl dX0_run_5 ?_
  exact hret _ _ _ _ _ _ (by omega) (by omega) dX0_run_8 rfl ⟨congrArg (fun z => some (Value.int z)) (rfl), rfl⟩
noncomputable def rX0_most_q (m : Mem) : Int32 := (rX0_mostNow_q (fQ_find m))
noncomputable def fX0_most_q (m : Mem) : Mem := (fQ_find m)
theorem fr_fX0_most_q (m : Mem) (f : Nat) (h0 : f % 64 ≠ 0) (h1 : f % 64 ≠ 1) (h2 : f % 64 ≠ 2) (h6 : f % 64 ≠ 6) (h7 : f % 64 ≠ 7) (h8 : f % 64 ≠ 8) (h9 : f % 64 ≠ 9) (h11 : f % 64 ≠ 11) : fX0_most_q m f = m f := (fr_fQ_find  m f h0 h1 h2 h6 h7 h8 h9 h11).trans (rfl)
theorem fq_fX0_most_q (m : Mem) (h_ : FrQ m) : FrQ (fX0_most_q m) := (fQ_fr _)
set_option maxHeartbeats 4000000 in
set_option maxRecDepth 100000 in
theorem metX0_most_q (l : Launch) (x : Hx) (M : Bool × Bool) (ad : Nat → Nat) (ds : Nat → Option Lay) (m : Mem) (c e : Nat)  (hc : FrQ m ∨ (18 ≤ c ∧ 114 ≤ e)) : Cn l yX0_most (ws_ yX0_most cX0_most 1 (some .int)) 15 (c + c) (e + e) [.ref (ad 0)] (PicQ x M) (KC x) (hx_A x) (ad, ds, m) (fun rv_ w_ => rv_ = some (.int (rX0_most_q m)) ∧ w_ = (ad, ds, (fX0_most_q m))) := by
  refine cn_i (own := RX0) rfl (Nat.le_of_ble_eq_true rfl) rfl (fun g hgl hA F hret => ?_)
  refine Wd.eql (lv' := [(0, .ref (ad 0))]) rfl ?_
  refine q_wf (fun hwf => ?_)
  obtain ⟨⟨hn0, lb0⟩, ⟨hn1, lb1⟩, ⟨hn2, lb2⟩, ⟨hn3, lb3⟩, ⟨hn4, lb4⟩⟩ := hwf
  refine ro_aload_n F dX0_most_0 0 rfl ?_
  refine hq_cV (rest := []) F hA (metX0_find_q (gx_l g) x M ad ds m c e (hc.imp (fun z => z) id)) cwX0_276 hdX0_find rfl (Nat.le_of_ble_eq_true rfl) (Nat.le_of_ble_eq_true rfl) (by omega) (by omega) rfl (Nat.le_of_ble_eq_true rfl) dX0_most_1 ?_
  refine ro_aload_n F dX0_most_4 0 rfl ?_
  refine hq_cV (c' := 0) (e' := 0) (rest := []) F hA (metX0_mostNow_q (gx_l g) x M ad ds (fQ_find m)  (fQ_fr _)) cwX0_286 hdX0_mostNow rfl (Nat.le_of_ble_eq_true rfl) (Nat.le_of_ble_eq_true rfl) (by omega) (by omega) rfl (Nat.le_of_ble_eq_true rfl) dX0_most_5 ?_
  exact hret _ _ _ _ _ _ (by omega) (by omega) dX0_most_8 rfl ⟨congrArg (fun z => some (Value.int z)) (rfl), rfl⟩
noncomputable def rX0_count_4_q (m : Mem) : Nat := (nn m 4)
noncomputable def fX0_count_4_q (m : Mem) : Mem := (fQ_find m)
theorem fr_fX0_count_4_q (m : Mem) (f : Nat) (h0 : f % 64 ≠ 0) (h1 : f % 64 ≠ 1) (h2 : f % 64 ≠ 2) (h6 : f % 64 ≠ 6) (h7 : f % 64 ≠ 7) (h8 : f % 64 ≠ 8) (h9 : f % 64 ≠ 9) (h11 : f % 64 ≠ 11) : fX0_count_4_q m f = m f := (fr_fQ_find  m f h0 h1 h2 h6 h7 h8 h9 h11).trans (rfl)
theorem fq_fX0_count_4_q (m : Mem) (h_ : FrQ m) : FrQ (fX0_count_4_q m) := (fQ_fr _)
set_option maxHeartbeats 4000000 in
set_option maxRecDepth 100000 in
theorem metX0_count_4_q (l : Launch) (x : Hx) (M : Bool × Bool) (ad : Nat → Nat) (ds : Nat → Option Lay) (m : Mem) (c e : Nat)  (hc : FrQ m ∨ (18 ≤ c ∧ 114 ≤ e)) : Cn l yX0_count (ws_ yX0_count cX0_count 2 (some .int)) 15 (c + c) (e + e) [.ref (ad 0), .int (nI 4)] (PicQ x M) (KC x) (hx_A x) (ad, ds, m) (fun rv_ w_ => rv_ = some (.int (nI (rX0_count_4_q m))) ∧ w_ = (ad, ds, (fX0_count_4_q m))) := by
  refine cn_i (own := RX0) rfl (Nat.le_of_ble_eq_true rfl) rfl (fun g hgl hA F hret => ?_)
  refine Wd.eql (lv' := [(0, .ref (ad 0)), (1, .int (nI 4))]) rfl ?_
  refine q_wf (fun hwf => ?_)
  obtain ⟨⟨hn0, lb0⟩, ⟨hn1, lb1⟩, ⟨hn2, lb2⟩, ⟨hn3, lb3⟩, ⟨hn4, lb4⟩⟩ := hwf
  refine ro_aload_n F dX0_count_0 0 rfl ?_
  refine hq_cV (rest := []) F hA (metX0_find_q (gx_l g) x M ad ds m c e (hc.imp (fun z => z) id)) cwX0_276 hdX0_find rfl (Nat.le_of_ble_eq_true rfl) (Nat.le_of_ble_eq_true rfl) (by omega) (by omega) rfl (Nat.le_of_ble_eq_true rfl) dX0_count_1 ?_
  refine ro_iload_n F dX0_count_4 1 rfl ?_
  refine ro_tableIn (tgt := 76) F dX0_count_5 (by decide) (by decide) rfl (by decide) ?_
  refine ro_aload_n F dX0_count_76 0 rfl ?_
  refine hq_getR F in_X0 (ci := 0) rfl 0 4 rfl (nhd (by decide)) (nhd (by decide)) 4 (by decide) qX0_34 (fun _ h => h) (Nat.le_of_ble_eq_true rfl) rfl dX0_count_77 ?_
  refine hq_size (len := 2) F hA (Or.inl ⟨rfl, rfl⟩) cwX0_170 (Nat.le_of_ble_eq_true rfl) (by omega) (by omega) (Nat.le_of_ble_eq_true rfl) dX0_count_80 ?_
  refine ro_eqi (y := nI (nn m 4)) (congrArg nI (nn_eq (fr_fQ_find  m 4 (by omega) (by omega) (by omega) (by omega) (by omega) (by omega) (by omega) (by omega)))) ?_
  exact hret _ _ _ _ _ _ (by omega) (by omega) dX0_count_83 rfl ⟨congrArg (fun z => some (Value.int z)) (rfl), rfl⟩
noncomputable def rX0_count_5_q (m : Mem) : Nat := (nn m 5)
noncomputable def fX0_count_5_q (m : Mem) : Mem := (fQ_find m)
theorem fr_fX0_count_5_q (m : Mem) (f : Nat) (h0 : f % 64 ≠ 0) (h1 : f % 64 ≠ 1) (h2 : f % 64 ≠ 2) (h6 : f % 64 ≠ 6) (h7 : f % 64 ≠ 7) (h8 : f % 64 ≠ 8) (h9 : f % 64 ≠ 9) (h11 : f % 64 ≠ 11) : fX0_count_5_q m f = m f := (fr_fQ_find  m f h0 h1 h2 h6 h7 h8 h9 h11).trans (rfl)
theorem fq_fX0_count_5_q (m : Mem) (h_ : FrQ m) : FrQ (fX0_count_5_q m) := (fQ_fr _)
set_option maxHeartbeats 4000000 in
set_option maxRecDepth 100000 in
theorem metX0_count_5_q (l : Launch) (x : Hx) (M : Bool × Bool) (ad : Nat → Nat) (ds : Nat → Option Lay) (m : Mem) (c e : Nat)  (hc : FrQ m ∨ (18 ≤ c ∧ 114 ≤ e)) : Cn l yX0_count (ws_ yX0_count cX0_count 2 (some .int)) 15 (c + c) (e + e) [.ref (ad 0), .int (nI 5)] (PicQ x M) (KC x) (hx_A x) (ad, ds, m) (fun rv_ w_ => rv_ = some (.int (nI (rX0_count_5_q m))) ∧ w_ = (ad, ds, (fX0_count_5_q m))) := by
  refine cn_i (own := RX0) rfl (Nat.le_of_ble_eq_true rfl) rfl (fun g hgl hA F hret => ?_)
  refine Wd.eql (lv' := [(0, .ref (ad 0)), (1, .int (nI 5))]) rfl ?_
  refine q_wf (fun hwf => ?_)
  obtain ⟨⟨hn0, lb0⟩, ⟨hn1, lb1⟩, ⟨hn2, lb2⟩, ⟨hn3, lb3⟩, ⟨hn4, lb4⟩⟩ := hwf
  refine ro_aload_n F dX0_count_0 0 rfl ?_
  refine hq_cV (rest := []) F hA (metX0_find_q (gx_l g) x M ad ds m c e (hc.imp (fun z => z) id)) cwX0_276 hdX0_find rfl (Nat.le_of_ble_eq_true rfl) (Nat.le_of_ble_eq_true rfl) (by omega) (by omega) rfl (Nat.le_of_ble_eq_true rfl) dX0_count_1 ?_
  refine ro_iload_n F dX0_count_4 1 rfl ?_
  refine ro_tableIn (tgt := 84) F dX0_count_5 (by decide) (by decide) rfl (by decide) ?_
  refine ro_aload_n F dX0_count_84 0 rfl ?_
  refine hq_getR F in_X0 (ci := 0) rfl 0 5 rfl (nhd (by decide)) (nhd (by decide)) 5 (by decide) qX0_38 (fun _ h => h) (Nat.le_of_ble_eq_true rfl) rfl dX0_count_85 ?_
  refine hq_size (len := 1) F hA (Or.inr (Or.inl ⟨rfl, rfl⟩)) cwX0_170 (Nat.le_of_ble_eq_true rfl) (by omega) (by omega) (Nat.le_of_ble_eq_true rfl) dX0_count_88 ?_
  refine ro_eqi (y := nI (nn m 5)) (congrArg nI (nn_eq (fr_fQ_find  m 5 (by omega) (by omega) (by omega) (by omega) (by omega) (by omega) (by omega) (by omega)))) ?_
  exact hret _ _ _ _ _ _ (by omega) (by omega) dX0_count_91 rfl ⟨congrArg (fun z => some (Value.int z)) (rfl), rfl⟩
noncomputable def rX0_count_6_q (m : Mem) : Int32 := (rX0_allHeard_q (fQ_find m))
noncomputable def fX0_count_6_q (m : Mem) : Mem := (fQ_find m)
theorem fr_fX0_count_6_q (m : Mem) (f : Nat) (h0 : f % 64 ≠ 0) (h1 : f % 64 ≠ 1) (h2 : f % 64 ≠ 2) (h6 : f % 64 ≠ 6) (h7 : f % 64 ≠ 7) (h8 : f % 64 ≠ 8) (h9 : f % 64 ≠ 9) (h11 : f % 64 ≠ 11) : fX0_count_6_q m f = m f := (fr_fQ_find  m f h0 h1 h2 h6 h7 h8 h9 h11).trans (rfl)
theorem fq_fX0_count_6_q (m : Mem) (h_ : FrQ m) : FrQ (fX0_count_6_q m) := (fQ_fr _)
set_option maxHeartbeats 4000000 in
set_option maxRecDepth 100000 in
theorem metX0_count_6_q (l : Launch) (x : Hx) (M : Bool × Bool) (ad : Nat → Nat) (ds : Nat → Option Lay) (m : Mem) (c e : Nat)  (hc : FrQ m ∨ (18 ≤ c ∧ 114 ≤ e)) : Cn l yX0_count (ws_ yX0_count cX0_count 2 (some .int)) 15 (c + c) (e + e) [.ref (ad 0), .int (nI 6)] (PicQ x M) (KC x) (hx_A x) (ad, ds, m) (fun rv_ w_ => rv_ = some (.int (rX0_count_6_q m)) ∧ w_ = (ad, ds, (fX0_count_6_q m))) := by
  refine cn_i (own := RX0) rfl (Nat.le_of_ble_eq_true rfl) rfl (fun g hgl hA F hret => ?_)
  refine Wd.eql (lv' := [(0, .ref (ad 0)), (1, .int (nI 6))]) rfl ?_
  refine q_wf (fun hwf => ?_)
  obtain ⟨⟨hn0, lb0⟩, ⟨hn1, lb1⟩, ⟨hn2, lb2⟩, ⟨hn3, lb3⟩, ⟨hn4, lb4⟩⟩ := hwf
  refine ro_aload_n F dX0_count_0 0 rfl ?_
  refine hq_cV (rest := []) F hA (metX0_find_q (gx_l g) x M ad ds m c e (hc.imp (fun z => z) id)) cwX0_276 hdX0_find rfl (Nat.le_of_ble_eq_true rfl) (Nat.le_of_ble_eq_true rfl) (by omega) (by omega) rfl (Nat.le_of_ble_eq_true rfl) dX0_count_1 ?_
  refine ro_iload_n F dX0_count_4 1 rfl ?_
  refine ro_tableIn (tgt := 92) F dX0_count_5 (by decide) (by decide) rfl (by decide) ?_
  refine ro_aload_n F dX0_count_92 0 rfl ?_
  refine hq_cV (c' := 0) (e' := 0) (rest := []) F hA (metX0_allHeard_q (gx_l g) x M ad ds (fQ_find m)  (fQ_fr _)) cwX0_395 hdX0_allHeard rfl (Nat.le_of_ble_eq_true rfl) (Nat.le_of_ble_eq_true rfl) (by omega) (by omega) rfl (Nat.le_of_ble_eq_true rfl) dX0_count_93 ?_
  exact hret _ _ _ _ _ _ (by omega) (by omega) dX0_count_96 rfl ⟨congrArg (fun z => some (Value.int z)) (rfl), rfl⟩
noncomputable def rX0_count_7_q (m : Mem) : Nat := (nn m 21)
noncomputable def fX0_count_7_q (m : Mem) : Mem := (fQ_find m)
theorem fr_fX0_count_7_q (m : Mem) (f : Nat) (h0 : f % 64 ≠ 0) (h1 : f % 64 ≠ 1) (h2 : f % 64 ≠ 2) (h6 : f % 64 ≠ 6) (h7 : f % 64 ≠ 7) (h8 : f % 64 ≠ 8) (h9 : f % 64 ≠ 9) (h11 : f % 64 ≠ 11) : fX0_count_7_q m f = m f := (fr_fQ_find  m f h0 h1 h2 h6 h7 h8 h9 h11).trans (rfl)
theorem fq_fX0_count_7_q (m : Mem) (h_ : FrQ m) : FrQ (fX0_count_7_q m) := (fQ_fr _)
set_option maxHeartbeats 4000000 in
set_option maxRecDepth 100000 in
theorem metX0_count_7_q (l : Launch) (x : Hx) (M : Bool × Bool) (ad : Nat → Nat) (ds : Nat → Option Lay) (m : Mem) (c e : Nat)  (hc : FrQ m ∨ (18 ≤ c ∧ 114 ≤ e)) : Cn l yX0_count (ws_ yX0_count cX0_count 2 (some .int)) 15 (c + c) (e + e) [.ref (ad 0), .int (nI 7)] (PicQ x M) (KC x) (hx_A x) (ad, ds, m) (fun rv_ w_ => rv_ = some (.int (nI (rX0_count_7_q m))) ∧ w_ = (ad, ds, (fX0_count_7_q m))) := by
  refine cn_i (own := RX0) rfl (Nat.le_of_ble_eq_true rfl) rfl (fun g hgl hA F hret => ?_)
  refine Wd.eql (lv' := [(0, .ref (ad 0)), (1, .int (nI 7))]) rfl ?_
  refine q_wf (fun hwf => ?_)
  obtain ⟨⟨hn0, lb0⟩, ⟨hn1, lb1⟩, ⟨hn2, lb2⟩, ⟨hn3, lb3⟩, ⟨hn4, lb4⟩⟩ := hwf
  refine ro_aload_n F dX0_count_0 0 rfl ?_
  refine hq_cV (rest := []) F hA (metX0_find_q (gx_l g) x M ad ds m c e (hc.imp (fun z => z) id)) cwX0_276 hdX0_find rfl (Nat.le_of_ble_eq_true rfl) (Nat.le_of_ble_eq_true rfl) (by omega) (by omega) rfl (Nat.le_of_ble_eq_true rfl) dX0_count_1 ?_
  refine ro_iload_n F dX0_count_4 1 rfl ?_
  refine ro_tableIn (tgt := 97) F dX0_count_5 (by decide) (by decide) rfl (by decide) ?_
  refine ro_aload_n F dX0_count_97 0 rfl ?_
  refine hq_getR F in_X0 (ci := 0) rfl 0 21 rfl (nhd (by decide)) (nhd (by decide)) 21 (by decide) qX0_84 (fun _ h => h) (Nat.le_of_ble_eq_true rfl) rfl dX0_count_98 ?_
  refine hq_size (len := 3) F hA (Or.inr (Or.inr ⟨rfl, rfl⟩)) cwX0_170 (Nat.le_of_ble_eq_true rfl) (by omega) (by omega) (Nat.le_of_ble_eq_true rfl) dX0_count_101 ?_
  refine ro_eqi (y := nI (nn m 21)) (congrArg nI (nn_eq (fr_fQ_find  m 21 (by omega) (by omega) (by omega) (by omega) (by omega) (by omega) (by omega) (by omega)))) ?_
  exact hret _ _ _ _ _ _ (by omega) (by omega) dX0_count_104 rfl ⟨congrArg (fun z => some (Value.int z)) (rfl), rfl⟩
noncomputable def rX0_count_8_q (m : Mem) : Int32 := (m 0 0)
noncomputable def fX0_count_8_q (m : Mem) : Mem := (fQ_find m)
theorem fr_fX0_count_8_q (m : Mem) (f : Nat) (h0 : f % 64 ≠ 0) (h1 : f % 64 ≠ 1) (h2 : f % 64 ≠ 2) (h6 : f % 64 ≠ 6) (h7 : f % 64 ≠ 7) (h8 : f % 64 ≠ 8) (h9 : f % 64 ≠ 9) (h11 : f % 64 ≠ 11) : fX0_count_8_q m f = m f := (fr_fQ_find  m f h0 h1 h2 h6 h7 h8 h9 h11).trans (rfl)
theorem fq_fX0_count_8_q (m : Mem) (h_ : FrQ m) : FrQ (fX0_count_8_q m) := (fQ_fr _)
set_option maxHeartbeats 4000000 in
set_option maxRecDepth 100000 in
theorem metX0_count_8_q (l : Launch) (x : Hx) (M : Bool × Bool) (ad : Nat → Nat) (ds : Nat → Option Lay) (m : Mem) (c e : Nat)  (hc : FrQ m ∨ (18 ≤ c ∧ 114 ≤ e)) : Cn l yX0_count (ws_ yX0_count cX0_count 2 (some .int)) 15 (c + c) (e + e) [.ref (ad 0), .int (nI 8)] (PicQ x M) (KC x) (hx_A x) (ad, ds, m) (fun rv_ w_ => rv_ = some (.int (rX0_count_8_q m)) ∧ w_ = (ad, ds, (fX0_count_8_q m))) := by
  refine cn_i (own := RX0) rfl (Nat.le_of_ble_eq_true rfl) rfl (fun g hgl hA F hret => ?_)
  refine Wd.eql (lv' := [(0, .ref (ad 0)), (1, .int (nI 8))]) rfl ?_
  refine q_wf (fun hwf => ?_)
  obtain ⟨⟨hn0, lb0⟩, ⟨hn1, lb1⟩, ⟨hn2, lb2⟩, ⟨hn3, lb3⟩, ⟨hn4, lb4⟩⟩ := hwf
  refine ro_aload_n F dX0_count_0 0 rfl ?_
  refine hq_cV (rest := []) F hA (metX0_find_q (gx_l g) x M ad ds m c e (hc.imp (fun z => z) id)) cwX0_276 hdX0_find rfl (Nat.le_of_ble_eq_true rfl) (Nat.le_of_ble_eq_true rfl) (by omega) (by omega) rfl (Nat.le_of_ble_eq_true rfl) dX0_count_1 ?_
  refine ro_iload_n F dX0_count_4 1 rfl ?_
  refine ro_tableIn (tgt := 105) F dX0_count_5 (by decide) (by decide) rfl (by decide) ?_
  refine ro_aload_n F dX0_count_105 0 rfl ?_
  refine hq_get F in_X0 (ci := 0) rfl 0 rfl (by decide) 0 (by decide) (by decide) qX0_99 (fun _ h => h) (Nat.le_of_ble_eq_true rfl) rfl (fQ_0 _ (by decide)) dX0_count_106 ?_
  exact hret _ _ _ _ _ _ (by omega) (by omega) dX0_count_109 rfl ⟨congrArg (fun z => some (Value.int z)) (rfl), rfl⟩
noncomputable def fX0_count_o_q (m : Mem) : Mem := (fQ_find m)
theorem fr_fX0_count_o_q (m : Mem) (f : Nat) (h0 : f % 64 ≠ 0) (h1 : f % 64 ≠ 1) (h2 : f % 64 ≠ 2) (h6 : f % 64 ≠ 6) (h7 : f % 64 ≠ 7) (h8 : f % 64 ≠ 8) (h9 : f % 64 ≠ 9) (h11 : f % 64 ≠ 11) : fX0_count_o_q m f = m f := (fr_fQ_find  m f h0 h1 h2 h6 h7 h8 h9 h11).trans (rfl)
theorem fq_fX0_count_o_q (m : Mem) (h_ : FrQ m) : FrQ (fX0_count_o_q m) := (fQ_fr _)
set_option maxHeartbeats 4000000 in
set_option maxRecDepth 100000 in
theorem metX0_count_o_q (l : Launch) (x : Hx) (M : Bool × Bool) (ad : Nat → Nat) (ds : Nat → Option Lay) (m : Mem) (c e : Nat) (what : Int32) (hc : FrQ m ∨ (18 ≤ c ∧ 114 ≤ e)) (hb : ¬ (0 ≤ what.toInt ∧ what.toInt ≤ 8)) : Cn l yX0_count (ws_ yX0_count cX0_count 2 (some .int)) 15 (c + c) (e + e) [.ref (ad 0), .int what] (PicQ x M) (KC x) (hx_A x) (ad, ds, m) (fun rv_ w_ => rv_ = some (.int (-2)) ∧ w_ = (ad, ds, (fX0_count_o_q m))) := by
  refine cn_i (own := RX0) rfl (Nat.le_of_ble_eq_true rfl) rfl (fun g hgl hA F hret => ?_)
  refine Wd.eql (lv' := [(0, .ref (ad 0)), (1, .int what)]) rfl ?_
  refine q_wf (fun hwf => ?_)
  obtain ⟨⟨hn0, lb0⟩, ⟨hn1, lb1⟩, ⟨hn2, lb2⟩, ⟨hn3, lb3⟩, ⟨hn4, lb4⟩⟩ := hwf
  refine ro_aload_n F dX0_count_0 0 rfl ?_
  refine hq_cV (rest := []) F hA (metX0_find_q (gx_l g) x M ad ds m c e (hc.imp (fun z => z) id)) cwX0_276 hdX0_find rfl (Nat.le_of_ble_eq_true rfl) (Nat.le_of_ble_eq_true rfl) (by omega) (by omega) rfl (Nat.le_of_ble_eq_true rfl) dX0_count_1 ?_
  refine ro_iload_n F dX0_count_4 1 rfl ?_
  refine ro_tableOut (tgt := 110) F dX0_count_5 (by omega) (by decide) ?_
  refine ro_bipush (v := (-2)) F dX0_count_110 (by decide) ?_
  exact hret _ _ _ _ _ _ (by omega) (by omega) dX0_count_112 rfl ⟨rfl, rfl⟩
