/-! the class over the lazy world: generated -/
theorem dayN {v : Int32} (h : ¬ ((v.toInt64) < 0) ∧ (¬ ((19) < (v.toInt64)))) : v = nI v.toNatClampNeg ∧ v.toNatClampNeg < 20 := by
  have h1 : ¬ v < 0 := fun z => h.1 ((fa_wide_lt v 0).mpr z)
  have h2 : ¬ (19 : Int32) < v := fun z => h.2 ((fa_wide_lt 19 v).mpr z)
  obtain ⟨j, hj, e⟩ := nI_of2 (n := 19) (show (19 : Int32).toInt = 19 from rfl) h1 (Int32.not_lt.mp h2)
  rw [e, nI_clamp (by omega)]
  exact ⟨rfl, by omega⟩
theorem twoN {v : Int32} (h : ¬ ((v.toInt64) < 0) ∧ (¬ ((1) < (v.toInt64)))) : v = nI v.toNatClampNeg ∧ v.toNatClampNeg < 2 := by
  have h1 : ¬ v < 0 := fun z => h.1 ((fa_wide_lt v 0).mpr z)
  have h2 : ¬ (1 : Int32) < v := fun z => h.2 ((fa_wide_lt 1 v).mpr z)
  obtain ⟨j, hj, e⟩ := nI_of2 (n := 1) (show (1 : Int32).toInt = 1 from rfl) h1 (Int32.not_lt.mp h2)
  rw [e, nI_clamp (by omega)]
  exact ⟨rfl, by omega⟩
theorem manyN {v : Int32} {n : Nat} (hn : n < 1000) (h : ¬ ((v.toInt64) < 0) ∧ (¬ ((((nI n) - (nI 1)).toInt64) < (v.toInt64)))) : v = nI v.toNatClampNeg ∧ v.toNatClampNeg < n := by
  have h1 : ¬ v < 0 := fun z => h.1 ((fa_wide_lt v 0).mpr z)
  have h2 : ¬ (nI n - nI 1) < v := fun z => h.2 ((fa_wide_lt _ v).mpr z)
  by_cases h0 : n = 0
  · subst h0
    exfalso
    have h3 : v ≤ -1 := Int32.not_lt.mp h2
    rw [Int32.le_iff_toInt_le] at h3
    have h4 := Int32.not_lt.mp h1
    rw [Int32.le_iff_toInt_le] at h4
    have e1 : (-1 : Int32).toInt = -1 := rfl
    have e2 : (0 : Int32).toInt = 0 := rfl
    omega
  · rw [pk_sub (by omega)] at h2
    obtain ⟨j, hj, e⟩ := nI_of2 (n := n - 1) (nI_toInt (by omega)) h1 (Int32.not_lt.mp h2)
    rw [e, nI_clamp (by omega)]
    exact ⟨rfl, by omega⟩
theorem nnf (m : Mem) : nn (fQ_find m) 32 = nn m 32 ∧ nn (fQ_find m) 42 = nn m 42 := ⟨nn_eq (fr_fQ_find m 32 (by decide) (by decide) (by decide) (by decide) (by decide) (by decide) (by decide) (by decide)), nn_eq (fr_fQ_find m 42 (by decide) (by decide) (by decide) (by decide) (by decide) (by decide) (by decide) (by decide))⟩
noncomputable def rX0_heard_q (d : Int32) (k : Int32) (what : Int32) (m : Mem) : Int32 := (if ¬ ((d.toInt64) < 0) ∧ (¬ ((19) < (d.toInt64))) then (if (rX0_isSaver_f k (fQ_find m)) then (if ¬ ((what.toInt64) < 0) ∧ (¬ (1 < (what.toInt64))) then (rX0_heardBy_q d.toNatClampNeg k.toNatClampNeg what (fQ_find m)) else (-2)) else (-2)) else (-2))
noncomputable def fX0_heard_q (m : Mem) : Mem := (fQ_find m)
theorem fr_fX0_heard_q (m : Mem) (f : Nat) (h0 : f % 64 ≠ 0) (h1 : f % 64 ≠ 1) (h2 : f % 64 ≠ 2) (h6 : f % 64 ≠ 6) (h7 : f % 64 ≠ 7) (h8 : f % 64 ≠ 8) (h9 : f % 64 ≠ 9) (h11 : f % 64 ≠ 11) : fX0_heard_q m f = m f := (fr_fQ_find  m f h0 h1 h2 h6 h7 h8 h9 h11).trans (rfl)
theorem fq_fX0_heard_q (m : Mem) (h_ : FrQ m) : FrQ (fX0_heard_q m) := (fQ_fr _)
set_option maxHeartbeats 4000000 in
set_option maxRecDepth 100000 in
theorem metX0_heard_q (l : Launch) (x : Hx) (M : Bool × Bool) (ad : Nat → Nat) (ds : Nat → Option Lay) (m : Mem) (c e : Nat) (d : Int32) (k : Int32) (what : Int32) (hc : FrQ m ∨ (18 ≤ c ∧ 114 ≤ e)) : Cn l yX0_heard (ws_ yX0_heard cX0_heard 4 (some .int)) 15 (c + c) (e + e) [.ref (ad 0), .int d, .int k, .int what] (PicQ x M) (KC x) (hx_A x) (ad, ds, m) (fun rv_ w_ => rv_ = some (.int (rX0_heard_q d k what m)) ∧ w_ = (ad, ds, (fX0_heard_q m))) := by
  refine cn_i (own := RX0) rfl (Nat.le_of_ble_eq_true rfl) rfl (fun g hgl hA F hret => ?_)
  refine Wd.eql (lv' := [(0, .ref (ad 0)), (1, .int d), (2, .int k), (3, .int what)]) rfl ?_
  refine q_wf (fun hwf => ?_)
  obtain ⟨⟨hn0, lb0⟩, ⟨hn1, lb1⟩, ⟨hn2, lb2⟩, ⟨hn3, lb3⟩, ⟨hn4, lb4⟩⟩ := hwf
  refine ro_aload_n F dX0_heard_0 0 rfl ?_
  refine hq_cV (rest := []) F hA (metX0_find_q (gx_l g) x M ad ds m c e (hc.imp (fun z => z) id)) cwX0_276 hdX0_find rfl (Nat.le_of_ble_eq_true rfl) (Nat.le_of_ble_eq_true rfl) (by omega) (by omega) rfl (Nat.le_of_ble_eq_true rfl) dX0_heard_1 ?_
  refine ro_iload_n F dX0_heard_4 1 rfl ?_
  refine hq_cS (rest := []) F hA (metX0_isDay_q (gx_l g) x M ad ds (fQ_find m) d ) cwX0_165 hdX0_isDay.2 rfl (Nat.le_of_ble_eq_true rfl) (Nat.le_of_ble_eq_true rfl) (by omega) (by omega) rfl (Nat.le_of_ble_eq_true rfl) dX0_heard_5 ?_
  have J38_8 : Wd (PicQ x M) g 4 (ad, ds, (fQ_find m)) (0 + (c + c)) (0 + (e + e)) 38 [] [.int (if ¬ ((d.toInt64) < 0) ∧ (¬ ((19) < (d.toInt64))) then (if (rX0_isSaver_f k (fQ_find m)) then (if ¬ ((what.toInt64) < 0) ∧ (¬ (1 < (what.toInt64))) then (rX0_heardBy_q d.toNatClampNeg k.toNatClampNeg what (fQ_find m)) else (-2)) else (-2)) else (-2))] := by
    exact hret _ _ _ _ _ _ (by omega) (by omega) dX0_heard_38 rfl ⟨congrArg (fun z => some (Value.int z)) (rfl), rfl⟩
  refine ro_if_eqB (tgt := 36) F dX0_heard_8 (by decide) (fun c8 => ?_) (fun c8 => ?_)
  · refine ro_bipush (v := (-2)) F dX0_heard_36 (by decide) ?_
    exact Wd.sub (lv' := []) [] rfl <| Wd.to J38_8 rfl rfl (congrArg (fun z => ([Value.int z] : List Value)) (by simp only [if_neg c8]))
  · refine ro_aload_n F dX0_heard_11 0 rfl ?_
    refine ro_iload_n F dX0_heard_12 2 rfl ?_
    refine hq_cV (c' := 0) (e' := 0) (rest := []) F hA (metX0_isSaver_f (gx_l g) x M ad ds (fQ_find m) k (fQ_fr _)) cwX0_139 hdX0_isSaver rfl (Nat.le_of_ble_eq_true rfl) (Nat.le_of_ble_eq_true rfl) (by omega) (by omega) rfl (Nat.le_of_ble_eq_true rfl) dX0_heard_13 ?_
    refine ro_if_eqB (tgt := 36) F dX0_heard_16 (by decide) (fun c16 => ?_) (fun c16 => ?_)
    · refine ro_bipush (v := (-2)) F dX0_heard_36 (by decide) ?_
      exact Wd.sub (lv' := []) [] rfl <| Wd.to J38_8 rfl rfl (congrArg (fun z => ([Value.int z] : List Value)) (by simp only [if_pos c8, if_neg c16]))
    · refine ro_iload_n F dX0_heard_19 3 rfl ?_
      refine hq_cS (rest := []) F hA (metX0_isTwo_q (gx_l g) x M ad ds (fQ_find m) what ) cwX0_109 hdX0_isTwo.2 rfl (Nat.le_of_ble_eq_true rfl) (Nat.le_of_ble_eq_true rfl) (by omega) (by omega) rfl (Nat.le_of_ble_eq_true rfl) dX0_heard_20 ?_
      refine ro_if_eqB (tgt := 36) F dX0_heard_23 (by decide) (fun c23 => ?_) (fun c23 => ?_)
      · refine ro_bipush (v := (-2)) F dX0_heard_36 (by decide) ?_
        exact Wd.sub (lv' := []) [] rfl <| Wd.to J38_8 rfl rfl (congrArg (fun z => ([Value.int z] : List Value)) (by simp only [if_pos c8, if_pos c16, if_neg c23]))
      · refine ro_aload_n F dX0_heard_26 0 rfl ?_
        refine ro_iload_n F dX0_heard_27 1 rfl ?_
        have hz_c8 := (dayN c8).2
        refine ro_eqi (y := nI d.toNatClampNeg) ((dayN c8).1) ?_
        refine ro_iload_n F dX0_heard_28 2 rfl ?_
        have hnf := nnf m
        have hz_c16 := (manyN (by omega) c16).2
        refine ro_eqi (y := nI k.toNatClampNeg) ((manyN (by omega) c16).1) ?_
        refine ro_iload_n F dX0_heard_29 3 rfl ?_
        refine hq_cV (c' := 0) (e' := 0) (rest := []) F hA (metX0_heardBy_q (gx_l g) x M ad ds (fQ_find m) d.toNatClampNeg k.toNatClampNeg what (by omega) (by omega)) cwX0_279 hdX0_heardBy rfl (Nat.le_of_ble_eq_true rfl) (Nat.le_of_ble_eq_true rfl) (by omega) (by omega) rfl (Nat.le_of_ble_eq_true rfl) dX0_heard_30 ?_
        refine ro_goto (tgt := 38) F dX0_heard_33 (by decide) ?_
        exact Wd.sub (lv' := []) [] rfl <| Wd.to J38_8 rfl rfl (congrArg (fun z => ([Value.int z] : List Value)) (by simp only [if_pos c8, if_pos c16, if_pos c23]))
noncomputable def rX0_left_q (d : Int32) (p : Int32) (m : Mem) : Int32 := (if ¬ ((d.toInt64) < 0) ∧ (¬ ((19) < (d.toInt64))) then (if (rX0_isPartner_f p (fQ_find m)) then ((fQ_find m) (9 + 64 * (d.toNatClampNeg + 1)) p.toNatClampNeg) else (-2)) else (-2))
noncomputable def fX0_left_q (m : Mem) : Mem := (fQ_find m)
theorem fr_fX0_left_q (m : Mem) (f : Nat) (h0 : f % 64 ≠ 0) (h1 : f % 64 ≠ 1) (h2 : f % 64 ≠ 2) (h6 : f % 64 ≠ 6) (h7 : f % 64 ≠ 7) (h8 : f % 64 ≠ 8) (h9 : f % 64 ≠ 9) (h11 : f % 64 ≠ 11) : fX0_left_q m f = m f := (fr_fQ_find  m f h0 h1 h2 h6 h7 h8 h9 h11).trans (rfl)
theorem fq_fX0_left_q (m : Mem) (h_ : FrQ m) : FrQ (fX0_left_q m) := (fQ_fr _)
set_option maxHeartbeats 4000000 in
set_option maxRecDepth 100000 in
theorem metX0_left_q (l : Launch) (x : Hx) (M : Bool × Bool) (ad : Nat → Nat) (ds : Nat → Option Lay) (m : Mem) (c e : Nat) (d : Int32) (p : Int32) (hc : FrQ m ∨ (18 ≤ c ∧ 114 ≤ e)) : Cn l yX0_left (ws_ yX0_left cX0_left 3 (some .int)) 15 (c + c) (e + e) [.ref (ad 0), .int d, .int p] (PicQ x M) (KC x) (hx_A x) (ad, ds, m) (fun rv_ w_ => rv_ = some (.int (rX0_left_q d p m)) ∧ w_ = (ad, ds, (fX0_left_q m))) := by
  refine cn_i (own := RX0) rfl (Nat.le_of_ble_eq_true rfl) rfl (fun g hgl hA F hret => ?_)
  refine Wd.eql (lv' := [(0, .ref (ad 0)), (1, .int d), (2, .int p)]) rfl ?_
  refine q_wf (fun hwf => ?_)
  obtain ⟨⟨hn0, lb0⟩, ⟨hn1, lb1⟩, ⟨hn2, lb2⟩, ⟨hn3, lb3⟩, ⟨hn4, lb4⟩⟩ := hwf
  refine ro_aload_n F dX0_left_0 0 rfl ?_
  refine hq_cV (rest := []) F hA (metX0_find_q (gx_l g) x M ad ds m c e (hc.imp (fun z => z) id)) cwX0_276 hdX0_find rfl (Nat.le_of_ble_eq_true rfl) (Nat.le_of_ble_eq_true rfl) (by omega) (by omega) rfl (Nat.le_of_ble_eq_true rfl) dX0_left_1 ?_
  refine ro_iload_n F dX0_left_4 1 rfl ?_
  refine hq_cS (rest := []) F hA (metX0_isDay_q (gx_l g) x M ad ds (fQ_find m) d ) cwX0_165 hdX0_isDay.2 rfl (Nat.le_of_ble_eq_true rfl) (Nat.le_of_ble_eq_true rfl) (by omega) (by omega) rfl (Nat.le_of_ble_eq_true rfl) dX0_left_5 ?_
  have J32_8 : Wd (PicQ x M) g 3 (ad, ds, (fQ_find m)) (0 + (c + c)) (0 + (e + e)) 32 [] [.int (if ¬ ((d.toInt64) < 0) ∧ (¬ ((19) < (d.toInt64))) then (if (rX0_isPartner_f p (fQ_find m)) then ((fQ_find m) (9 + 64 * (d.toNatClampNeg + 1)) p.toNatClampNeg) else (-2)) else (-2))] := by
    exact hret _ _ _ _ _ _ (by omega) (by omega) dX0_left_32 rfl ⟨congrArg (fun z => some (Value.int z)) (rfl), rfl⟩
  refine ro_if_eqB (tgt := 30) F dX0_left_8 (by decide) (fun c8 => ?_) (fun c8 => ?_)
  · refine ro_bipush (v := (-2)) F dX0_left_30 (by decide) ?_
    exact Wd.sub (lv' := []) [] rfl <| Wd.to J32_8 rfl rfl (congrArg (fun z => ([Value.int z] : List Value)) (by simp only [if_neg c8]))
  · refine ro_aload_n F dX0_left_11 0 rfl ?_
    refine ro_iload_n F dX0_left_12 2 rfl ?_
    refine hq_cV (c' := 0) (e' := 0) (rest := []) F hA (metX0_isPartner_f (gx_l g) x M ad ds (fQ_find m) p (fQ_fr _)) cwX0_156 hdX0_isPartner rfl (Nat.le_of_ble_eq_true rfl) (Nat.le_of_ble_eq_true rfl) (by omega) (by omega) rfl (Nat.le_of_ble_eq_true rfl) dX0_left_13 ?_
    refine ro_if_eqB (tgt := 30) F dX0_left_16 (by decide) (fun c16 => ?_) (fun c16 => ?_)
    · refine ro_bipush (v := (-2)) F dX0_left_30 (by decide) ?_
      exact Wd.sub (lv' := []) [] rfl <| Wd.to J32_8 rfl rfl (congrArg (fun z => ([Value.int z] : List Value)) (by simp only [if_pos c8, if_neg c16]))
    · refine ro_aload_n F dX0_left_19 0 rfl ?_
      refine hq_getR F in_X0 (ci := 0) rfl 0 9 rfl (nhd (by decide)) (nhd (by decide)) 9 (by decide) qX0_52 (fun _ h => h) (Nat.le_of_ble_eq_true rfl) rfl dX0_left_20 ?_
      refine ro_iload_n F dX0_left_23 1 rfl ?_
      have hz_c8 := (dayN c8).2
      refine ro_eqi (y := nI d.toNatClampNeg) ((dayN c8).1) ?_
      refine hq_ldAg F 9 20 rfl (by decide) (by decide) (by omega) dX0_left_24 ?_
      refine ro_iload_n F dX0_left_25 2 rfl ?_
      have hnf := nnf m
      have hz_c16 := (manyN (by omega) c16).2
      refine ro_eqi (y := nI p.toNatClampNeg) ((manyN (by omega) c16).1) ?_
      refine hq_ldG F (9 + 64 * (d.toNatClampNeg + 1)) 9 (fix_9 (by omega)) (by omega) (by decide) (by omega) dX0_left_26 rfl ?_
      refine ro_goto (tgt := 32) F dX0_left_27 (by decide) ?_
      exact Wd.sub (lv' := []) [] rfl <| Wd.to J32_8 rfl rfl (congrArg (fun z => ([Value.int z] : List Value)) (by simp only [if_pos c8, if_pos c16]))
noncomputable def rX0_yawn_q (what : Int32) (m : Mem) : Int32 := (if ¬ ((what.toInt64) < 0) ∧ (¬ (1 < (what.toInt64))) then ((fQ_find m) 11 what.toNatClampNeg) else (-2))
noncomputable def fX0_yawn_q (m : Mem) : Mem := (fQ_find m)
theorem fr_fX0_yawn_q (m : Mem) (f : Nat) (h0 : f % 64 ≠ 0) (h1 : f % 64 ≠ 1) (h2 : f % 64 ≠ 2) (h6 : f % 64 ≠ 6) (h7 : f % 64 ≠ 7) (h8 : f % 64 ≠ 8) (h9 : f % 64 ≠ 9) (h11 : f % 64 ≠ 11) : fX0_yawn_q m f = m f := (fr_fQ_find  m f h0 h1 h2 h6 h7 h8 h9 h11).trans (rfl)
theorem fq_fX0_yawn_q (m : Mem) (h_ : FrQ m) : FrQ (fX0_yawn_q m) := (fQ_fr _)
set_option maxHeartbeats 4000000 in
set_option maxRecDepth 100000 in
theorem metX0_yawn_q (l : Launch) (x : Hx) (M : Bool × Bool) (ad : Nat → Nat) (ds : Nat → Option Lay) (m : Mem) (c e : Nat) (what : Int32) (hc : FrQ m ∨ (18 ≤ c ∧ 114 ≤ e)) : Cn l yX0_yawn (ws_ yX0_yawn cX0_yawn 2 (some .int)) 15 (c + c) (e + e) [.ref (ad 0), .int what] (PicQ x M) (KC x) (hx_A x) (ad, ds, m) (fun rv_ w_ => rv_ = some (.int (rX0_yawn_q what m)) ∧ w_ = (ad, ds, (fX0_yawn_q m))) := by
  refine cn_i (own := RX0) rfl (Nat.le_of_ble_eq_true rfl) rfl (fun g hgl hA F hret => ?_)
  refine Wd.eql (lv' := [(0, .ref (ad 0)), (1, .int what)]) rfl ?_
  refine q_wf (fun hwf => ?_)
  obtain ⟨⟨hn0, lb0⟩, ⟨hn1, lb1⟩, ⟨hn2, lb2⟩, ⟨hn3, lb3⟩, ⟨hn4, lb4⟩⟩ := hwf
  refine ro_aload_n F dX0_yawn_0 0 rfl ?_
  refine hq_cV (rest := []) F hA (metX0_find_q (gx_l g) x M ad ds m c e (hc.imp (fun z => z) id)) cwX0_276 hdX0_find rfl (Nat.le_of_ble_eq_true rfl) (Nat.le_of_ble_eq_true rfl) (by omega) (by omega) rfl (Nat.le_of_ble_eq_true rfl) dX0_yawn_1 ?_
  refine ro_iload_n F dX0_yawn_4 1 rfl ?_
  refine hq_cS (rest := []) F hA (metX0_isTwo_q (gx_l g) x M ad ds (fQ_find m) what ) cwX0_109 hdX0_isTwo.2 rfl (Nat.le_of_ble_eq_true rfl) (Nat.le_of_ble_eq_true rfl) (by omega) (by omega) rfl (Nat.le_of_ble_eq_true rfl) dX0_yawn_5 ?_
  have J22_8 : Wd (PicQ x M) g 2 (ad, ds, (fQ_find m)) (0 + (c + c)) (0 + (e + e)) 22 [] [.int (if ¬ ((what.toInt64) < 0) ∧ (¬ (1 < (what.toInt64))) then ((fQ_find m) 11 what.toNatClampNeg) else (-2))] := by
    exact hret _ _ _ _ _ _ (by omega) (by omega) dX0_yawn_22 rfl ⟨congrArg (fun z => some (Value.int z)) (rfl), rfl⟩
  refine ro_if_eqB (tgt := 20) F dX0_yawn_8 (by decide) (fun c8 => ?_) (fun c8 => ?_)
  · refine ro_bipush (v := (-2)) F dX0_yawn_20 (by decide) ?_
    exact Wd.sub (lv' := []) [] rfl <| Wd.to J22_8 rfl rfl (congrArg (fun z => ([Value.int z] : List Value)) (by simp only [if_neg c8]))
  · refine ro_aload_n F dX0_yawn_11 0 rfl ?_
    refine hq_getR F in_X0 (ci := 0) rfl 0 11 rfl (nhd (by decide)) (nhd (by decide)) 11 (by decide) qX0_55 (fun _ h => h) (Nat.le_of_ble_eq_true rfl) rfl dX0_yawn_12 ?_
    refine ro_iload_n F dX0_yawn_15 1 rfl ?_
    have hz_c8 := (twoN c8).2
    refine ro_eqi (y := nI what.toNatClampNeg) ((twoN c8).1) ?_
    refine hq_ldI F 11 2 rfl (by decide) (by decide) (by omega) dX0_yawn_16 rfl ?_
    refine ro_goto (tgt := 22) F dX0_yawn_17 (by decide) ?_
    exact Wd.sub (lv' := []) [] rfl <| Wd.to J22_8 rfl rfl (congrArg (fun z => ([Value.int z] : List Value)) (by simp only [if_pos c8]))
noncomputable def rX0_owed_a_q (d : Int32) (m : Mem) : Int32 := (if ¬ ((d.toInt64) < 0) ∧ (¬ ((19) < (d.toInt64))) then (rX0_allOwed d.toNatClampNeg (nn (fQ_find m) 32) (fQ_find m)) else (-2))
noncomputable def fX0_owed_a_q (m : Mem) : Mem := (fQ_find m)
theorem fr_fX0_owed_a_q (m : Mem) (f : Nat) (h0 : f % 64 ≠ 0) (h1 : f % 64 ≠ 1) (h2 : f % 64 ≠ 2) (h6 : f % 64 ≠ 6) (h7 : f % 64 ≠ 7) (h8 : f % 64 ≠ 8) (h9 : f % 64 ≠ 9) (h11 : f % 64 ≠ 11) : fX0_owed_a_q m f = m f := (fr_fQ_find  m f h0 h1 h2 h6 h7 h8 h9 h11).trans (rfl)
theorem fq_fX0_owed_a_q (m : Mem) (h_ : FrQ m) : FrQ (fX0_owed_a_q m) := (fQ_fr _)
set_option maxHeartbeats 4000000 in
set_option maxRecDepth 100000 in
theorem metX0_owed_a_q (l : Launch) (x : Hx) (M : Bool × Bool) (ad : Nat → Nat) (ds : Nat → Option Lay) (m : Mem) (c e : Nat) (d : Int32) (hc : FrQ m ∨ (18 ≤ c ∧ 114 ≤ e)) : Cn l yX0_owed (ws_ yX0_owed cX0_owed 3 (some .int)) 15 (c + c) (e + e) [.ref (ad 0), .int d, .int (-1)] (PicQ x M) (KC x) (hx_A x) (ad, ds, m) (fun rv_ w_ => rv_ = some (.int (rX0_owed_a_q d m)) ∧ w_ = (ad, ds, (fX0_owed_a_q m))) := by
  refine cn_i (own := RX0) rfl (Nat.le_of_ble_eq_true rfl) rfl (fun g hgl hA F hret => ?_)
  refine Wd.eql (lv' := [(0, .ref (ad 0)), (1, .int d), (2, .int (-1))]) rfl ?_
  refine q_wf (fun hwf => ?_)
  obtain ⟨⟨hn0, lb0⟩, ⟨hn1, lb1⟩, ⟨hn2, lb2⟩, ⟨hn3, lb3⟩, ⟨hn4, lb4⟩⟩ := hwf
  refine ro_aload_n F dX0_owed_0 0 rfl ?_
  refine hq_cV (rest := []) F hA (metX0_find_q (gx_l g) x M ad ds m c e (hc.imp (fun z => z) id)) cwX0_276 hdX0_find rfl (Nat.le_of_ble_eq_true rfl) (Nat.le_of_ble_eq_true rfl) (by omega) (by omega) rfl (Nat.le_of_ble_eq_true rfl) dX0_owed_1 ?_
  refine ro_iload_n F dX0_owed_4 1 rfl ?_
  refine hq_cS (rest := []) F hA (metX0_isDay_q (gx_l g) x M ad ds (fQ_find m) d ) cwX0_165 hdX0_isDay.2 rfl (Nat.le_of_ble_eq_true rfl) (Nat.le_of_ble_eq_true rfl) (by omega) (by omega) rfl (Nat.le_of_ble_eq_true rfl) dX0_owed_5 ?_
  have J50_8 : Wd (PicQ x M) g 3 (ad, ds, (fQ_find m)) (0 + (c + c)) (0 + (e + e)) 50 [] [.int (if ¬ ((d.toInt64) < 0) ∧ (¬ ((19) < (d.toInt64))) then (rX0_allOwed d.toNatClampNeg (nn (fQ_find m) 32) (fQ_find m)) else (-2))] := by
    exact hret _ _ _ _ _ _ (by omega) (by omega) dX0_owed_50 rfl ⟨congrArg (fun z => some (Value.int z)) (rfl), rfl⟩
  refine ro_if_eqB (tgt := 24) F dX0_owed_8 (by decide) (fun c8 => ?_) (fun c8 => ?_)
  · refine ro_bipush (v := (-2)) F dX0_owed_24 (by decide) ?_
    refine ro_goto (tgt := 50) F dX0_owed_26 (by decide) ?_
    exact Wd.sub (lv' := []) [] rfl <| Wd.to J50_8 rfl rfl (congrArg (fun z => ([Value.int z] : List Value)) (by simp only [if_neg c8]))
  · refine ro_iload_n F dX0_owed_11 2 rfl ?_
    refine ro_iconst (v := (-1)) F dX0_owed_12 (by decide) ?_
    refine ro_icmp_eq (tgt := 29) F dX0_owed_13 (by decide) (fun c13 => ?_) (fun c13 => absurd rfl c13)
    refine ro_iload_n F dX0_owed_29 2 rfl ?_
    refine ro_iconst (v := (-1)) F dX0_owed_30 (by decide) ?_
    refine ro_icmp_ne (tgt := 42) F dX0_owed_31 (by decide) (fun c31 => absurd rfl c31) (fun c31 => ?_)
    refine ro_aload_n F dX0_owed_34 0 rfl ?_
    refine ro_iload_n F dX0_owed_35 1 rfl ?_
    have hz_c8 := (dayN c8).2
    refine ro_eqi (y := nI d.toNatClampNeg) ((dayN c8).1) ?_
    refine hq_cV (c' := 0) (e' := 0) (rest := []) F hA (metX0_allOwed_q (gx_l g) x M ad ds (fQ_find m) d.toNatClampNeg (fQ_fr _) (by omega)) cwX0_273 hdX0_allOwed rfl (Nat.le_of_ble_eq_true rfl) (Nat.le_of_ble_eq_true rfl) (by omega) (by omega) rfl (Nat.le_of_ble_eq_true rfl) dX0_owed_36 ?_
    refine ro_goto (tgt := 50) F dX0_owed_39 (by decide) ?_
    exact Wd.sub (lv' := []) [] rfl <| Wd.to J50_8 rfl rfl (congrArg (fun z => ([Value.int z] : List Value)) (by simp only [if_pos c8, if_pos c13, if_pos c31]))
noncomputable def rX0_owed_b_q (d : Int32) (k : Int32) (m : Mem) : Int32 := (if ¬ ((d.toInt64) < 0) ∧ (¬ ((19) < (d.toInt64))) then (if (rX0_isSaver_f k (fQ_find m)) then ((fQ_find m) (6 + 64 * (d.toNatClampNeg + 1)) k.toNatClampNeg) else (-2)) else (-2))
noncomputable def fX0_owed_b_q (m : Mem) : Mem := (fQ_find m)
theorem fr_fX0_owed_b_q (m : Mem) (f : Nat) (h0 : f % 64 ≠ 0) (h1 : f % 64 ≠ 1) (h2 : f % 64 ≠ 2) (h6 : f % 64 ≠ 6) (h7 : f % 64 ≠ 7) (h8 : f % 64 ≠ 8) (h9 : f % 64 ≠ 9) (h11 : f % 64 ≠ 11) : fX0_owed_b_q m f = m f := (fr_fQ_find  m f h0 h1 h2 h6 h7 h8 h9 h11).trans (rfl)
theorem fq_fX0_owed_b_q (m : Mem) (h_ : FrQ m) : FrQ (fX0_owed_b_q m) := (fQ_fr _)
set_option maxHeartbeats 4000000 in
set_option maxRecDepth 100000 in
theorem metX0_owed_b_q (l : Launch) (x : Hx) (M : Bool × Bool) (ad : Nat → Nat) (ds : Nat → Option Lay) (m : Mem) (c e : Nat) (d : Int32) (k : Int32) (hc : FrQ m ∨ (18 ≤ c ∧ 114 ≤ e)) (hne : ¬ k = -1) : Cn l yX0_owed (ws_ yX0_owed cX0_owed 3 (some .int)) 15 (c + c) (e + e) [.ref (ad 0), .int d, .int k] (PicQ x M) (KC x) (hx_A x) (ad, ds, m) (fun rv_ w_ => rv_ = some (.int (rX0_owed_b_q d k m)) ∧ w_ = (ad, ds, (fX0_owed_b_q m))) := by
  refine cn_i (own := RX0) rfl (Nat.le_of_ble_eq_true rfl) rfl (fun g hgl hA F hret => ?_)
  refine Wd.eql (lv' := [(0, .ref (ad 0)), (1, .int d), (2, .int k)]) rfl ?_
  refine q_wf (fun hwf => ?_)
  obtain ⟨⟨hn0, lb0⟩, ⟨hn1, lb1⟩, ⟨hn2, lb2⟩, ⟨hn3, lb3⟩, ⟨hn4, lb4⟩⟩ := hwf
  refine ro_aload_n F dX0_owed_0 0 rfl ?_
  refine hq_cV (rest := []) F hA (metX0_find_q (gx_l g) x M ad ds m c e (hc.imp (fun z => z) id)) cwX0_276 hdX0_find rfl (Nat.le_of_ble_eq_true rfl) (Nat.le_of_ble_eq_true rfl) (by omega) (by omega) rfl (Nat.le_of_ble_eq_true rfl) dX0_owed_1 ?_
  refine ro_iload_n F dX0_owed_4 1 rfl ?_
  refine hq_cS (rest := []) F hA (metX0_isDay_q (gx_l g) x M ad ds (fQ_find m) d ) cwX0_165 hdX0_isDay.2 rfl (Nat.le_of_ble_eq_true rfl) (Nat.le_of_ble_eq_true rfl) (by omega) (by omega) rfl (Nat.le_of_ble_eq_true rfl) dX0_owed_5 ?_
  have J50_8 : Wd (PicQ x M) g 3 (ad, ds, (fQ_find m)) (0 + (c + c)) (0 + (e + e)) 50 [] [.int (if ¬ ((d.toInt64) < 0) ∧ (¬ ((19) < (d.toInt64))) then (if (rX0_isSaver_f k (fQ_find m)) then ((fQ_find m) (6 + 64 * (d.toNatClampNeg + 1)) k.toNatClampNeg) else (-2)) else (-2))] := by
    exact hret _ _ _ _ _ _ (by omega) (by omega) dX0_owed_50 rfl ⟨congrArg (fun z => some (Value.int z)) (rfl), rfl⟩
  refine ro_if_eqB (tgt := 24) F dX0_owed_8 (by decide) (fun c8 => ?_) (fun c8 => ?_)
  · refine ro_bipush (v := (-2)) F dX0_owed_24 (by decide) ?_
    refine ro_goto (tgt := 50) F dX0_owed_26 (by decide) ?_
    exact Wd.sub (lv' := []) [] rfl <| Wd.to J50_8 rfl rfl (congrArg (fun z => ([Value.int z] : List Value)) (by simp only [if_neg c8]))
  · refine ro_iload_n F dX0_owed_11 2 rfl ?_
    refine ro_iconst (v := (-1)) F dX0_owed_12 (by decide) ?_
    refine ro_icmp_eq (tgt := 29) F dX0_owed_13 (by decide) (fun c13 => absurd c13 hne) (fun c13 => ?_)
    refine ro_aload_n F dX0_owed_16 0 rfl ?_
    refine ro_iload_n F dX0_owed_17 2 rfl ?_
    refine hq_cV (c' := 0) (e' := 0) (rest := []) F hA (metX0_isSaver_f (gx_l g) x M ad ds (fQ_find m) k (fQ_fr _)) cwX0_139 hdX0_isSaver rfl (Nat.le_of_ble_eq_true rfl) (Nat.le_of_ble_eq_true rfl) (by omega) (by omega) rfl (Nat.le_of_ble_eq_true rfl) dX0_owed_18 ?_
    refine ro_if_neB (tgt := 29) F dX0_owed_21 (by decide) (fun c21 => ?_) (fun c21 => ?_)
    · refine ro_iload_n F dX0_owed_29 2 rfl ?_
      refine ro_iconst (v := (-1)) F dX0_owed_30 (by decide) ?_
      refine ro_icmp_ne (tgt := 42) F dX0_owed_31 (by decide) (fun c31 => ?_) (fun c31 => absurd c31 hne)
      refine ro_aload_n F dX0_owed_42 0 rfl ?_
      refine hq_getR F in_X0 (ci := 0) rfl 0 6 rfl (nhd (by decide)) (nhd (by decide)) 6 (by decide) qX0_43 (fun _ h => h) (Nat.le_of_ble_eq_true rfl) rfl dX0_owed_43 ?_
      refine ro_iload_n F dX0_owed_46 1 rfl ?_
      have hz_c8 := (dayN c8).2
      refine ro_eqi (y := nI d.toNatClampNeg) ((dayN c8).1) ?_
      refine hq_ldAg F 6 20 rfl (by decide) (by decide) (by omega) dX0_owed_47 ?_
      refine ro_iload_n F dX0_owed_48 2 rfl ?_
      have hnf := nnf m
      have hz_c21 := (manyN (by omega) c21).2
      refine ro_eqi (y := nI k.toNatClampNeg) ((manyN (by omega) c21).1) ?_
      refine hq_ldG F (6 + 64 * (d.toNatClampNeg + 1)) 8 (fix_6 (by omega)) (by omega) (by decide) (by omega) dX0_owed_49 rfl ?_
      exact Wd.sub (lv' := []) [] rfl <| Wd.to J50_8 rfl rfl (congrArg (fun z => ([Value.int z] : List Value)) (by simp only [if_pos c8, if_neg c13, if_pos c21, if_neg c31]))
    · refine ro_bipush (v := (-2)) F dX0_owed_24 (by decide) ?_
      refine ro_goto (tgt := 50) F dX0_owed_26 (by decide) ?_
      exact Wd.sub (lv' := []) [] rfl <| Wd.to J50_8 rfl rfl (congrArg (fun z => ([Value.int z] : List Value)) (by simp only [if_pos c8, if_neg c13, if_neg c21]))
