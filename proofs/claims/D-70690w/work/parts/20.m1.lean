set_option maxHeartbeats 4000000 in
set_option maxRecDepth 100000 in
theorem metX6_in (l : Launch) (X : Mx) (m : Mem) (v : Int32) (low : Int32) (high : Int32)   : Cn l yX6_in (ws_ yX6_in cX6_in 3 (some .boolean)) 1 0 0 [.int v, .int low, .int high] (PicM X) (KM X) (mx_A X) m (fun rv_ w_ => rv_ = some (.int (b2 (¬ (v < low) ∧ (¬ (high < v))))) ∧ w_ = m) := by
  refine cn_i (own := RX6) rfl (Nat.le_of_ble_eq_true rfl) rfl (fun g hgl hA F hret => ?_)
  refine Wd.eql (lv' := [(0, .int v), (1, .int low), (2, .int high)]) rfl ?_
  refine ro_iload_n F dX6_in_0 0 rfl ?_
  refine ro_iload_n F dX6_in_1 1 rfl ?_
  have J15_2 : Wd (PicM X) g 3 m 0 0 15 [] [.int (b2 (¬ (v < low) ∧ (¬ (high < v))))] := by
    exact hret _ _ _ _ _ _ (Nat.le_refl _) (Nat.le_refl _) dX6_in_15 b2_nar ⟨rfl, rfl⟩
  refine ro_icmp_lt (tgt := 14) F dX6_in_2 (by decide) (fun c2 => ?_) (fun c2 => ?_)
  · refine ro_iconst (v := (nI 0)) F dX6_in_14 (by decide) ?_
    exact Wd.sub (lv' := []) [] rfl <| Wd.to J15_2 rfl rfl (congrArg (fun z => ([Value.int z] : List Value)) ((b2_f (by simp [c2])).symm))
  · refine ro_iload_n F dX6_in_5 0 rfl ?_
    refine ro_iload_n F dX6_in_6 2 rfl ?_
    refine ro_icmp_gt (tgt := 14) F dX6_in_7 (by decide) (fun c7 => ?_) (fun c7 => ?_)
    · refine ro_iconst (v := (nI 0)) F dX6_in_14 (by decide) ?_
      exact Wd.sub (lv' := []) [] rfl <| Wd.to J15_2 rfl rfl (congrArg (fun z => ([Value.int z] : List Value)) ((b2_f (by simp [c2, c7])).symm))
    · refine ro_iconst (v := (nI 1)) F dX6_in_10 (by decide) ?_
      refine ro_goto (tgt := 15) F dX6_in_11 (by decide) ?_
      exact Wd.sub (lv' := []) [] rfl <| Wd.to J15_2 rfl rfl (congrArg (fun z => ([Value.int z] : List Value)) ((b2_t (by simp [c2, c7])).symm))
set_option maxHeartbeats 4000000 in
set_option maxRecDepth 100000 in
theorem metX6_isText (l : Launch) (X : Mx) (m : Mem) (t : Int32)   : Cn l yX6_isText (ws_ yX6_isText cX6_isText 1 (some .boolean)) 2 0 0 [.int t] (PicM X) (KM X) (mx_A X) m (fun rv_ w_ => rv_ = some (.int (b2 (¬ (t < (nI 0)) ∧ (¬ ((nI 1) < t))))) ∧ w_ = m) := by
  refine cn_i (own := RX6) rfl (Nat.le_of_ble_eq_true rfl) rfl (fun g hgl hA F hret => ?_)
  refine Wd.eql (lv' := [(0, .int t)]) rfl ?_
  refine ro_iload_n F dX6_isText_0 0 rfl ?_
  refine ro_iconst (v := (nI 0)) F dX6_isText_1 (by decide) ?_
  refine ro_iconst (v := (nI 1)) F dX6_isText_2 (by decide) ?_
  refine mo_cS (rest := []) F hA (metX6_in (gx_l g) X m t (nI 0) (nI 1) ) cwX6_104 hdX6_in rfl (Nat.le_of_ble_eq_true rfl) (Nat.le_of_ble_eq_true rfl) (Nat.le_refl _) (Nat.le_refl _) rfl (Nat.le_of_ble_eq_true rfl) dX6_isText_3 ?_
  exact hret _ _ _ _ _ _ (Nat.le_refl _) (Nat.le_refl _) dX6_isText_6 b2_nar ⟨rfl, rfl⟩
set_option maxHeartbeats 4000000 in
set_option maxRecDepth 100000 in
theorem metX6_isDay (l : Launch) (X : Mx) (m : Mem) (t : Int32)   : Cn l yX6_isDay (ws_ yX6_isDay cX6_isDay 1 (some .boolean)) 2 0 0 [.int t] (PicM X) (KM X) (mx_A X) m (fun rv_ w_ => rv_ = some (.int (b2 (¬ (t < (nI 0)) ∧ (¬ ((nI 19) < t))))) ∧ w_ = m) := by
  refine cn_i (own := RX6) rfl (Nat.le_of_ble_eq_true rfl) rfl (fun g hgl hA F hret => ?_)
  refine Wd.eql (lv' := [(0, .int t)]) rfl ?_
  refine ro_iload_n F dX6_isDay_0 0 rfl ?_
  refine ro_iconst (v := (nI 0)) F dX6_isDay_1 (by decide) ?_
  refine ro_bipush (v := (nI 19)) F dX6_isDay_2 (by decide) ?_
  refine mo_cS (rest := []) F hA (metX6_in (gx_l g) X m t (nI 0) (nI 19) ) cwX6_104 hdX6_in rfl (Nat.le_of_ble_eq_true rfl) (Nat.le_of_ble_eq_true rfl) (Nat.le_refl _) (Nat.le_refl _) rfl (Nat.le_of_ble_eq_true rfl) dX6_isDay_4 ?_
  exact hret _ _ _ _ _ _ (Nat.le_refl _) (Nat.le_refl _) dX6_isDay_7 b2_nar ⟨rfl, rfl⟩
set_option maxHeartbeats 4000000 in
set_option maxRecDepth 100000 in
theorem metX6_isSheet (l : Launch) (X : Mx) (m : Mem) (t : Int32)   : Cn l yX6_isSheet (ws_ yX6_isSheet cX6_isSheet 1 (some .boolean)) 2 0 0 [.int t] (PicM X) (KM X) (mx_A X) m (fun rv_ w_ => rv_ = some (.int (b2 (¬ (t < (nI 0)) ∧ (¬ ((nI 3) < t))))) ∧ w_ = m) := by
  refine cn_i (own := RX6) rfl (Nat.le_of_ble_eq_true rfl) rfl (fun g hgl hA F hret => ?_)
  refine Wd.eql (lv' := [(0, .int t)]) rfl ?_
  refine ro_iload_n F dX6_isSheet_0 0 rfl ?_
  refine ro_iconst (v := (nI 0)) F dX6_isSheet_1 (by decide) ?_
  refine ro_iconst (v := (nI 3)) F dX6_isSheet_2 (by decide) ?_
  refine mo_cS (rest := []) F hA (metX6_in (gx_l g) X m t (nI 0) (nI 3) ) cwX6_104 hdX6_in rfl (Nat.le_of_ble_eq_true rfl) (Nat.le_of_ble_eq_true rfl) (Nat.le_refl _) (Nat.le_refl _) rfl (Nat.le_of_ble_eq_true rfl) dX6_isSheet_3 ?_
  exact hret _ _ _ _ _ _ (Nat.le_refl _) (Nat.le_refl _) dX6_isSheet_6 b2_nar ⟨rfl, rfl⟩
set_option maxHeartbeats 4000000 in
set_option maxRecDepth 100000 in
theorem metX6_isIn (l : Launch) (X : Mx) (m : Mem) (bits : Int32) (k : Int32)   : Cn l yX6_isIn (ws_ yX6_isIn cX6_isIn 2 (some .boolean)) 1 0 0 [.int bits, .int k] (PicM X) (KM X) (mx_A X) m (fun rv_ w_ => rv_ = some (.int (b2 (((bits >>> (k &&& 31)) &&& (nI 1)) = (nI 1)))) ∧ w_ = m) := by
  refine cn_i (own := RX6) rfl (Nat.le_of_ble_eq_true rfl) rfl (fun g hgl hA F hret => ?_)
  refine Wd.eql (lv' := [(0, .int bits), (1, .int k)]) rfl ?_
  refine ro_iload_n F dX6_isIn_0 0 rfl ?_
  refine ro_iload_n F dX6_isIn_1 1 rfl ?_
  refine ro_ishr F dX6_isIn_2 ?_
  refine ro_iconst (v := (nI 1)) F dX6_isIn_3 (by decide) ?_
  refine ro_iand F dX6_isIn_4 ?_
  refine ro_iconst (v := (nI 1)) F dX6_isIn_5 (by decide) ?_
  have J14_6 : Wd (PicM X) g 2 m 0 0 14 [] [.int (b2 (((bits >>> (k &&& 31)) &&& (nI 1)) = (nI 1)))] := by
    exact hret _ _ _ _ _ _ (Nat.le_refl _) (Nat.le_refl _) dX6_isIn_14 b2_nar ⟨rfl, rfl⟩
  refine ro_icmp_ne (tgt := 13) F dX6_isIn_6 (by decide) (fun c6 => ?_) (fun c6 => ?_)
  · refine ro_iconst (v := (nI 0)) F dX6_isIn_13 (by decide) ?_
    exact Wd.sub (lv' := []) [] rfl <| Wd.to J14_6 rfl rfl (congrArg (fun z => ([Value.int z] : List Value)) ((b2_f (by simp [c6])).symm))
  · refine ro_iconst (v := (nI 1)) F dX6_isIn_9 (by decide) ?_
    refine ro_goto (tgt := 14) F dX6_isIn_10 (by decide) ?_
    exact Wd.sub (lv' := []) [] rfl <| Wd.to J14_6 rfl rfl (congrArg (fun z => ([Value.int z] : List Value)) ((b2_t (by simp [c6])).symm))
set_option maxHeartbeats 4000000 in
set_option maxRecDepth 100000 in
theorem metX6_no (l : Launch) (X : Mx) (m : Mem) (r : Int32)   : Cn l yX6_no (ws_ yX6_no cX6_no 1 (some .long)) 1 0 0 [.int r] (PicM X) (KM X) (mx_A X) m (fun rv_ w_ => rv_ = some (.long ((-9223372036854775808) - (r.toInt64))) ∧ w_ = m) := by
  refine cn_l (own := RX6) rfl (Nat.le_of_ble_eq_true rfl) rfl (fun g hgl hA F hret => ?_)
  refine Wd.eql (lv' := [(0, .int r)]) rfl ?_
  refine ro_ldc2 F q1544 dX6_no_0 ?_
  refine ro_iload_n F dX6_no_3 0 rfl ?_
  refine ro_i2l F dX6_no_4 ?_
  refine ro_lsub F dX6_no_5 ?_
  exact hret _ _ _ _ _ _ (Nat.le_refl _) (Nat.le_refl _) dX6_no_6 ⟨rfl, rfl⟩
noncomputable def rX6_meets (z : Int32) : Int32 := ((-10) - z)
noncomputable def fX6_meets (z : Int32) (m : Mem) : Mem := (m2 m 39 0 z)
theorem fr_fX6_meets (z : Int32) (m : Mem) (f : Nat) (h39 : f ≠ 39) : fX6_meets z m f = m f := (m2_ff _ _ h39).trans (rfl)
set_option maxHeartbeats 4000000 in
set_option maxRecDepth 100000 in
theorem metX6_meets (l : Launch) (X : Mx) (m : Mem) (z : Int32)   : Cn l yX6_meets (ws_ yX6_meets cX6_meets 2 (some .int)) 1 0 0 [.ref (mx_ad X 40), .int z] (PicM X) (KM X) (mx_A X) m (fun rv_ w_ => rv_ = some (.int (rX6_meets z)) ∧ w_ = (fX6_meets z m)) := by
  refine cn_i (own := RX6) rfl (Nat.le_of_ble_eq_true rfl) rfl (fun g hgl hA F hret => ?_)
  refine Wd.eql (lv' := [(0, .ref (mx_ad X 40)), (1, .int z)]) rfl ?_
  refine ro_aload_n F dX6_meets_0 0 rfl ?_
  refine ro_iload_n F dX6_meets_1 1 rfl ?_
  refine mo_put F hA 39 (Nat.le_of_ble_eq_true rfl) rfl rfl rfl lkX6_283 rfl dX6_meets_2 ?_
  refine ro_bipush (v := (-10)) F dX6_meets_5 (by decide) ?_
  refine ro_iload_n F dX6_meets_7 1 rfl ?_
  refine ro_isub F dX6_meets_8 ?_
  exact hret _ _ _ _ _ _ (Nat.le_refl _) (Nat.le_refl _) dX6_meets_9 rfl ⟨congrArg (fun z => some (Value.int z)) (rfl), rfl⟩
noncomputable def lX6_hears_10 (k : Nat) (day : Nat) (m : Mem) (i10 : Nat) (b10 : Mem) : Mem := (if (m 8 i10) = (m 5 k) then (m2 (m2 (m2 b10 23 i10 ((b10 23 i10) - (if (b10 19 k) ≤ (b10 23 i10) then (b10 19 k) else (b10 23 i10)))) 19 k ((b10 19 k) - (if (b10 19 k) ≤ (b10 23 i10) then (b10 19 k) else (b10 23 i10)))) 21 ((20 * k) + day) ((b10 21 ((20 * k) + day)) + (if (b10 19 k) ≤ (b10 23 i10) then (b10 19 k) else (b10 23 i10)))) else b10)
theorem fr_lX6_hears_10 (k : Nat) (day : Nat) (m : Mem) (i10 : Nat) (b10 : Mem) (f : Nat) (h19 : f ≠ 19) (h21 : f ≠ 21) (h23 : f ≠ 23) : lX6_hears_10 k day m i10 b10 f = b10 f := ite_fr ((m2_ff _ _ h21).trans ((m2_ff _ _ h19).trans ((m2_ff _ _ h23).trans (rfl)))) (rfl)
theorem fi_lX6_hears_10 (k : Nat) (day : Nat) (m : Mem) (b10 : Mem) (n_ : Nat) (f : Nat) (h19 : f ≠ 19) (h21 : f ≠ 21) (h23 : f ≠ 23) : (it (lX6_hears_10 k day m) b10 n_) f = b10 f := it_fr (fun i_ b_ => fr_lX6_hears_10 k day m i_ b_ f h19 h21 h23) n_
noncomputable def lX6_hears_112 (k : Nat) (day : Nat) (m : Mem) (i112 : Nat) (b112 : Mem) : Mem := (if (m 8 i112) = (m 5 k) then b112 else (m2 (m2 (m2 (m2 (m2 (m2 b112 23 i112 ((b112 23 i112) - ((nI 2) * (if (b112 19 k) ≤ ((b112 23 i112) / (nI 2)) then (b112 19 k) else ((b112 23 i112) / (nI 2)))))) 19 k ((b112 19 k) - (if (b112 19 k) ≤ ((b112 23 i112) / (nI 2)) then (b112 19 k) else ((b112 23 i112) / (nI 2))))) 21 ((20 * k) + day) ((b112 21 ((20 * k) + day)) + (if (b112 19 k) ≤ ((b112 23 i112) / (nI 2)) then (b112 19 k) else ((b112 23 i112) / (nI 2))))) 22 ((20 * k) + day) ((b112 22 ((20 * k) + day)) + (if (b112 19 k) ≤ ((b112 23 i112) / (nI 2)) then (b112 19 k) else ((b112 23 i112) / (nI 2))))) 27 0 (if (if (b112 19 k) ≤ ((b112 23 i112) / (nI 2)) then (b112 19 k) else ((b112 23 i112) / (nI 2))) ≤ 0 then (b112 27 0) else (if (b112 26 0) = (-1) then (nI k) else (b112 27 0)))) 26 0 (if (if (b112 19 k) ≤ ((b112 23 i112) / (nI 2)) then (b112 19 k) else ((b112 23 i112) / (nI 2))) ≤ 0 then (b112 26 0) else (if (b112 26 0) = (-1) then (nI day) else (b112 26 0)))))
theorem fr_lX6_hears_112 (k : Nat) (day : Nat) (m : Mem) (i112 : Nat) (b112 : Mem) (f : Nat) (h19 : f ≠ 19) (h21 : f ≠ 21) (h22 : f ≠ 22) (h23 : f ≠ 23) (h26 : f ≠ 26) (h27 : f ≠ 27) : lX6_hears_112 k day m i112 b112 f = b112 f := ite_fr (rfl) ((m2_ff _ _ h26).trans ((m2_ff _ _ h27).trans ((m2_ff _ _ h22).trans ((m2_ff _ _ h21).trans ((m2_ff _ _ h19).trans ((m2_ff _ _ h23).trans (rfl)))))))
theorem fi_lX6_hears_112 (k : Nat) (day : Nat) (m : Mem) (b112 : Mem) (n_ : Nat) (f : Nat) (h19 : f ≠ 19) (h21 : f ≠ 21) (h22 : f ≠ 22) (h23 : f ≠ 23) (h26 : f ≠ 26) (h27 : f ≠ 27) : (it (lX6_hears_112 k day m) b112 n_) f = b112 f := it_fr (fun i_ b_ => fr_lX6_hears_112 k day m i_ b_ f h19 h21 h22 h23 h26 h27) n_
noncomputable def fX6_hears (k : Nat) (day : Nat) (np : Nat) (m : Mem) : Mem := (it (lX6_hears_112 k day m) (it (lX6_hears_10 k day m) m np) np)
theorem fr_fX6_hears (k : Nat) (day : Nat) (np : Nat) (m : Mem) (f : Nat) (h19 : f ≠ 19) (h21 : f ≠ 21) (h22 : f ≠ 22) (h23 : f ≠ 23) (h26 : f ≠ 26) (h27 : f ≠ 27) : fX6_hears k day np m f = m f := (fi_lX6_hears_112 k day m (it (lX6_hears_10 k day m) m np) np f h19 h21 h22 h23 h26 h27).trans ((fi_lX6_hears_10 k day m m np f h19 h21 h23).trans (rfl))
set_option maxHeartbeats 4000000 in
set_option maxRecDepth 100000 in
theorem metX6_hears (l : Launch) (X : Mx) (m : Mem) (k : Nat) (day : Nat) (np : Nat) (hnp : m 6 0 = nI np) (lnp : np ≤ 9) (hk : k < 8) (hday : day < 20) : Cn l yX6_hears (ws_ yX6_hears cX6_hears 6 none) 1 0 0 [.ref (mx_ad X 40), .int (nI k), .int (nI day)] (PicM X) (KM X) (mx_A X) m (fun rv_ w_ => rv_ = none ∧ w_ = (fX6_hears k day np m)) := by
  refine cn_v (own := RX6) rfl (Nat.le_of_ble_eq_true rfl) rfl (fun g hgl hA F hret => ?_)
  refine Wd.eql (lv' := [(0, .ref (mx_ad X 40)), (1, .int (nI k)), (2, .int (nI day))]) rfl ?_
  refine ro_bipush (v := (nI 20)) F dX6_hears_0 (by decide) ?_
  refine ro_iload_n F dX6_hears_2 1 rfl ?_
  refine ro_imulN F dX6_hears_3 ?_
  refine ro_iload_n F dX6_hears_4 2 rfl ?_
  refine ro_iaddN F dX6_hears_5 ?_
  refine ro_istore_n (lv' := [(0, .ref (mx_ad X 40)), (1, .int (nI k)), (2, .int (nI day)), (3, .int (nI ((20 * k) + day)))]) F dX6_hears_6 (Nat.le_of_ble_eq_true rfl) [1, 2, 3, 0] rfl ?_
  refine ro_iconst (v := (nI 0)) F dX6_hears_7 (by decide) ?_
  refine ro_istore (lv' := [(0, .ref (mx_ad X 40)), (1, .int (nI k)), (2, .int (nI day)), (3, .int (nI ((20 * k) + day))), (4, .int (nI 0))]) F dX6_hears_8 (Nat.le_of_ble_eq_true rfl) [1, 2, 3, 4, 0] rfl ?_
  refine it_loop np (lX6_hears_10 k day m) m (fun (_ : Nat) (b10 : Mem) => ∀ f : Nat, f ≠ 19 → f ≠ 21 → f ≠ 23 → b10 f = m f) (fun (i10 : Nat) (b10 : Mem) => Wd (PicM X) g 6 b10 0 0 10 [(0, .ref (mx_ad X 40)), (1, .int (nI k)), (2, .int (nI day)), (3, .int (nI ((20 * k) + day))), (4, .int (nI i10))] []) (fun f _ _ _ => rfl) (fun i_ b_ _ hb f h19 h21 h23 => (fr_lX6_hears_10 k day m i_ b_ f h19 h21 h23).trans (hb f h19 h21 h23)) (fun i10 b10 hi10 hf10 ih10 => ?_) (fun b10 hf10 he10 => ?_)
  · refine ro_iload F dX6_hears_10 4 rfl ?_
    refine ro_aload_n F dX6_hears_12 0 rfl ?_
    refine mo_gi F 6 (Nat.le_of_ble_eq_true rfl) rfl lkX6_125 rfl dX6_hears_13 ((congrFun (hf10 6 (by decide) (by decide) (by decide)) 0).trans (hnp)) ?_
    refine ro_icmp_geN (tgt := 109) F dX6_hears_16 (by decide) (by omega) (by omega) (fun c16 => absurd c16 (by omega)) (fun c16 => ?_)
    refine ro_aload_n F dX6_hears_19 0 rfl ?_
    refine mo_gr F 8 (Nat.le_of_ble_eq_true rfl) (by decide) lkX6_28 rfl dX6_hears_20 ?_
    refine ro_iload F dX6_hears_23 4 rfl ?_
    refine mo_ldN F 8 9 rfl (by decide) (by decide) rfl (by omega) dX6_hears_25 (congrFun (hf10 8 (by decide) (by decide) (by decide)) i10) ?_
    refine ro_aload_n F dX6_hears_26 0 rfl ?_
    refine mo_gr F 5 (Nat.le_of_ble_eq_true rfl) (by decide) lkX6_22 rfl dX6_hears_27 ?_
    refine ro_iload_n F dX6_hears_30 1 rfl ?_
    refine mo_ldN F 5 9 rfl (by decide) (by decide) rfl (by omega) dX6_hears_31 (congrFun (hf10 5 (by decide) (by decide) (by decide)) k) ?_
    have J103_32 : Wd (PicM X) g 6 (if (m 8 i10) = (m 5 k) then (m2 (m2 (m2 b10 23 i10 ((b10 23 i10) - (if (b10 19 k) ≤ (b10 23 i10) then (b10 19 k) else (b10 23 i10)))) 19 k ((b10 19 k) - (if (b10 19 k) ≤ (b10 23 i10) then (b10 19 k) else (b10 23 i10)))) 21 ((20 * k) + day) ((b10 21 ((20 * k) + day)) + (if (b10 19 k) ≤ (b10 23 i10) then (b10 19 k) else (b10 23 i10)))) else b10) 0 0 103 [(0, .ref (mx_ad X 40)), (1, .int (nI k)), (2, .int (nI day)), (3, .int (nI ((20 * k) + day))), (4, .int (nI i10))] [] := by
      refine ro_iincN (z := 1) (lv' := [(0, .ref (mx_ad X 40)), (1, .int (nI k)), (2, .int (nI day)), (3, .int (nI ((20 * k) + day))), (4, .int (nI (i10 + 1)))]) F dX6_hears_103 4 rfl (Nat.le_of_ble_eq_true rfl) [1, 2, 3, 4, 0] rfl ?_
      refine ro_goto (tgt := 10) F dX6_hears_106 (by decide) ?_
      exact ih10
    refine ro_icmp_ne (tgt := 103) F dX6_hears_32 (by decide) (fun c32 => ?_) (fun c32 => ?_)
    · exact Wd.to J103_32 (by simp only [if_neg c32]) rfl rfl
    · refine ro_aload_n F dX6_hears_35 0 rfl ?_
      refine mo_gr F 23 (Nat.le_of_ble_eq_true rfl) (by decide) lkX6_59 rfl dX6_hears_36 ?_
      refine ro_iload F dX6_hears_39 4 rfl ?_
      refine mo_ldN F 23 9 rfl (by decide) (by decide) rfl (by omega) dX6_hears_41 rfl ?_
      refine ro_aload_n F dX6_hears_42 0 rfl ?_
      refine mo_gr F 19 (Nat.le_of_ble_eq_true rfl) (by decide) lkX6_47 rfl dX6_hears_43 ?_
      refine ro_iload_n F dX6_hears_46 1 rfl ?_
      refine mo_ldN F 19 8 rfl (by decide) (by decide) rfl (by omega) dX6_hears_47 rfl ?_
      have J67_48 : Wd (PicM X) g 6 b10 0 0 67 [(0, .ref (mx_ad X 40)), (1, .int (nI k)), (2, .int (nI day)), (3, .int (nI ((20 * k) + day))), (4, .int (nI i10))] [.int (if (b10 19 k) ≤ (b10 23 i10) then (b10 19 k) else (b10 23 i10))] := by
        refine ro_istore (lv' := [(0, .ref (mx_ad X 40)), (1, .int (nI k)), (2, .int (nI day)), (3, .int (nI ((20 * k) + day))), (4, .int (nI i10)), (5, .int (if (b10 19 k) ≤ (b10 23 i10) then (b10 19 k) else (b10 23 i10)))]) F dX6_hears_67 (Nat.le_of_ble_eq_true rfl) [1, 2, 3, 4, 5, 0] rfl ?_
        refine ro_aload_n F dX6_hears_69 0 rfl ?_
        refine mo_gr F 23 (Nat.le_of_ble_eq_true rfl) (by decide) lkX6_59 rfl dX6_hears_70 ?_
        refine ro_iload F dX6_hears_73 4 rfl ?_
        refine ro_dup2 F dX6_hears_75 rfl rfl ?_
        refine mo_ldN F 23 9 rfl (by decide) (by decide) rfl (by omega) dX6_hears_76 rfl ?_
        refine ro_iload F dX6_hears_77 5 rfl ?_
        refine ro_isub F dX6_hears_79 ?_
        refine mo_stN F hA 23 9 rfl (by decide) (by decide) rfl (by omega) dX6_hears_80 ?_
        refine ro_aload_n F dX6_hears_81 0 rfl ?_
        refine mo_gr F 19 (Nat.le_of_ble_eq_true rfl) (by decide) lkX6_47 rfl dX6_hears_82 ?_
        refine ro_iload_n F dX6_hears_85 1 rfl ?_
        refine ro_dup2 F dX6_hears_86 rfl rfl ?_
        refine mo_ldN F 19 8 rfl (by decide) (by decide) rfl (by omega) dX6_hears_87 (m2_f _ _ (by decide)) ?_
        refine ro_iload F dX6_hears_88 5 rfl ?_
        refine ro_isub F dX6_hears_90 ?_
        refine mo_stN F hA 19 8 rfl (by decide) (by decide) rfl (by omega) dX6_hears_91 ?_
        refine ro_aload_n F dX6_hears_92 0 rfl ?_
        refine mo_gr F 21 (Nat.le_of_ble_eq_true rfl) (by decide) lkX6_53 rfl dX6_hears_93 ?_
        refine ro_iload_n F dX6_hears_96 3 rfl ?_
        refine ro_dup2 F dX6_hears_97 rfl rfl ?_
        refine mo_ldN F 21 160 rfl (by decide) (by decide) rfl (by omega) dX6_hears_98 ((m2_f _ _ (by decide)).trans (m2_f _ _ (by decide))) ?_
        refine ro_iload F dX6_hears_99 5 rfl ?_
        refine ro_iadd F dX6_hears_101 ?_
        refine mo_stN F hA 21 160 rfl (by decide) (by decide) rfl (by omega) dX6_hears_102 ?_
        exact Wd.sub (lv' := [(0, .ref (mx_ad X 40)), (1, .int (nI k)), (2, .int (nI day)), (3, .int (nI ((20 * k) + day))), (4, .int (nI i10))]) [0, 1, 2, 3, 4] rfl <| Wd.to J103_32 (by simp only [if_pos c32]) rfl rfl
      refine ro_icmp_ge (tgt := 61) F dX6_hears_48 (by decide) (fun c48 => ?_) (fun c48 => ?_)
      · refine ro_aload_n F dX6_hears_61 0 rfl ?_
        refine mo_gr F 19 (Nat.le_of_ble_eq_true rfl) (by decide) lkX6_47 rfl dX6_hears_62 ?_
        refine ro_iload_n F dX6_hears_65 1 rfl ?_
        refine mo_ldN F 19 8 rfl (by decide) (by decide) rfl (by omega) dX6_hears_66 rfl ?_
        exact Wd.to J67_48 rfl rfl (congrArg (fun z => ([Value.int z] : List Value)) (by simp only [if_pos c48]))
      · refine ro_aload_n F dX6_hears_51 0 rfl ?_
        refine mo_gr F 23 (Nat.le_of_ble_eq_true rfl) (by decide) lkX6_59 rfl dX6_hears_52 ?_
        refine ro_iload F dX6_hears_55 4 rfl ?_
        refine mo_ldN F 23 9 rfl (by decide) (by decide) rfl (by omega) dX6_hears_57 rfl ?_
        refine ro_goto (tgt := 67) F dX6_hears_58 (by decide) ?_
        exact Wd.to J67_48 rfl rfl (congrArg (fun z => ([Value.int z] : List Value)) (by simp only [if_neg c48]))
  subst he10
  refine ro_iload F dX6_hears_10 4 rfl ?_
  refine ro_aload_n F dX6_hears_12 0 rfl ?_
  refine mo_gi F 6 (Nat.le_of_ble_eq_true rfl) rfl lkX6_125 rfl dX6_hears_13 ((congrFun (fi_lX6_hears_10 k day m m np 6 (by decide) (by decide) (by decide)) 0).trans (hnp)) ?_
  refine ro_icmp_geN (tgt := 109) F dX6_hears_16 (by decide) (by omega) (by omega) (fun c16 => ?_) (fun c16 => absurd c16 (by omega))
  refine ro_iconst (v := (nI 0)) F dX6_hears_109 (by decide) ?_
  refine ro_istore (lv' := [(0, .ref (mx_ad X 40)), (1, .int (nI k)), (2, .int (nI day)), (3, .int (nI ((20 * k) + day))), (4, .int (nI 0))]) F dX6_hears_110 (Nat.le_of_ble_eq_true rfl) [1, 2, 3, 4, 0] rfl ?_
  refine it_loop np (lX6_hears_112 k day m) (it (lX6_hears_10 k day m) m np) (fun (_ : Nat) (b112 : Mem) => ∀ f : Nat, f ≠ 19 → f ≠ 21 → f ≠ 22 → f ≠ 23 → f ≠ 26 → f ≠ 27 → b112 f = (it (lX6_hears_10 k day m) m np) f) (fun (i112 : Nat) (b112 : Mem) => Wd (PicM X) g 6 b112 0 0 112 [(0, .ref (mx_ad X 40)), (1, .int (nI k)), (2, .int (nI day)), (3, .int (nI ((20 * k) + day))), (4, .int (nI i112))] []) (fun f _ _ _ _ _ _ => rfl) (fun i_ b_ _ hb f h19 h21 h22 h23 h26 h27 => (fr_lX6_hears_112 k day m i_ b_ f h19 h21 h22 h23 h26 h27).trans (hb f h19 h21 h22 h23 h26 h27)) (fun i112 b112 hi112 hf112 ih112 => ?_) (fun b112 hf112 he112 => ?_)
  · refine ro_iload F dX6_hears_112 4 rfl ?_
    refine ro_aload_n F dX6_hears_114 0 rfl ?_
    refine mo_gi F 6 (Nat.le_of_ble_eq_true rfl) rfl lkX6_125 rfl dX6_hears_115 ((congrFun (hf112 6 (by decide) (by decide) (by decide) (by decide) (by decide) (by decide)) 0).trans ((congrFun (fi_lX6_hears_10 k day m m np 6 (by decide) (by decide) (by decide)) 0).trans (hnp))) ?_
    refine ro_icmp_geN (tgt := 278) F dX6_hears_118 (by decide) (by omega) (by omega) (fun c118 => absurd c118 (by omega)) (fun c118 => ?_)
    refine ro_aload_n F dX6_hears_121 0 rfl ?_
    refine mo_gr F 8 (Nat.le_of_ble_eq_true rfl) (by decide) lkX6_28 rfl dX6_hears_122 ?_
    refine ro_iload F dX6_hears_125 4 rfl ?_
    refine mo_ldN F 8 9 rfl (by decide) (by decide) rfl (by omega) dX6_hears_127 ((congrFun (hf112 8 (by decide) (by decide) (by decide) (by decide) (by decide) (by decide)) i112).trans (congrFun (fi_lX6_hears_10 k day m m np 8 (by decide) (by decide) (by decide)) i112)) ?_
    refine ro_aload_n F dX6_hears_128 0 rfl ?_
    refine mo_gr F 5 (Nat.le_of_ble_eq_true rfl) (by decide) lkX6_22 rfl dX6_hears_129 ?_
    refine ro_iload_n F dX6_hears_132 1 rfl ?_
    refine mo_ldN F 5 9 rfl (by decide) (by decide) rfl (by omega) dX6_hears_133 ((congrFun (hf112 5 (by decide) (by decide) (by decide) (by decide) (by decide) (by decide)) k).trans (congrFun (fi_lX6_hears_10 k day m m np 5 (by decide) (by decide) (by decide)) k)) ?_
    have J272_134 : Wd (PicM X) g 6 (if (m 8 i112) = (m 5 k) then b112 else (m2 (m2 (m2 (m2 (m2 (m2 b112 23 i112 ((b112 23 i112) - ((nI 2) * (if (b112 19 k) ≤ ((b112 23 i112) / (nI 2)) then (b112 19 k) else ((b112 23 i112) / (nI 2)))))) 19 k ((b112 19 k) - (if (b112 19 k) ≤ ((b112 23 i112) / (nI 2)) then (b112 19 k) else ((b112 23 i112) / (nI 2))))) 21 ((20 * k) + day) ((b112 21 ((20 * k) + day)) + (if (b112 19 k) ≤ ((b112 23 i112) / (nI 2)) then (b112 19 k) else ((b112 23 i112) / (nI 2))))) 22 ((20 * k) + day) ((b112 22 ((20 * k) + day)) + (if (b112 19 k) ≤ ((b112 23 i112) / (nI 2)) then (b112 19 k) else ((b112 23 i112) / (nI 2))))) 27 0 (if (if (b112 19 k) ≤ ((b112 23 i112) / (nI 2)) then (b112 19 k) else ((b112 23 i112) / (nI 2))) ≤ 0 then (b112 27 0) else (if (b112 26 0) = (-1) then (nI k) else (b112 27 0)))) 26 0 (if (if (b112 19 k) ≤ ((b112 23 i112) / (nI 2)) then (b112 19 k) else ((b112 23 i112) / (nI 2))) ≤ 0 then (b112 26 0) else (if (b112 26 0) = (-1) then (nI day) else (b112 26 0))))) 0 0 272 [(0, .ref (mx_ad X 40)), (1, .int (nI k)), (2, .int (nI day)), (3, .int (nI ((20 * k) + day))), (4, .int (nI i112))] [] := by
      refine ro_iincN (z := 1) (lv' := [(0, .ref (mx_ad X 40)), (1, .int (nI k)), (2, .int (nI day)), (3, .int (nI ((20 * k) + day))), (4, .int (nI (i112 + 1)))]) F dX6_hears_272 4 rfl (Nat.le_of_ble_eq_true rfl) [1, 2, 3, 4, 0] rfl ?_
      refine ro_goto (tgt := 112) F dX6_hears_275 (by decide) ?_
      exact ih112
    refine ro_icmp_eq (tgt := 272) F dX6_hears_134 (by decide) (fun c134 => ?_) (fun c134 => ?_)
    · exact Wd.to J272_134 (by simp only [if_pos c134]) rfl rfl
    · refine ro_aload_n F dX6_hears_137 0 rfl ?_
      refine mo_gr F 23 (Nat.le_of_ble_eq_true rfl) (by decide) lkX6_59 rfl dX6_hears_138 ?_
      refine ro_iload F dX6_hears_141 4 rfl ?_
      refine mo_ldN F 23 9 rfl (by decide) (by decide) rfl (by omega) dX6_hears_143 rfl ?_
      refine ro_iconst (v := (nI 2)) F dX6_hears_144 (by decide) ?_
      refine ro_idiv F dX6_hears_145 (by decide) ?_
      refine ro_aload_n F dX6_hears_146 0 rfl ?_
      refine mo_gr F 19 (Nat.le_of_ble_eq_true rfl) (by decide) lkX6_47 rfl dX6_hears_147 ?_
      refine ro_iload_n F dX6_hears_150 1 rfl ?_
      refine mo_ldN F 19 8 rfl (by decide) (by decide) rfl (by omega) dX6_hears_151 rfl ?_
      have J173_152 : Wd (PicM X) g 6 b112 0 0 173 [(0, .ref (mx_ad X 40)), (1, .int (nI k)), (2, .int (nI day)), (3, .int (nI ((20 * k) + day))), (4, .int (nI i112))] [.int (if (b112 19 k) ≤ ((b112 23 i112) / (nI 2)) then (b112 19 k) else ((b112 23 i112) / (nI 2)))] := by
        refine ro_istore (lv' := [(0, .ref (mx_ad X 40)), (1, .int (nI k)), (2, .int (nI day)), (3, .int (nI ((20 * k) + day))), (4, .int (nI i112)), (5, .int (if (b112 19 k) ≤ ((b112 23 i112) / (nI 2)) then (b112 19 k) else ((b112 23 i112) / (nI 2))))]) F dX6_hears_173 (Nat.le_of_ble_eq_true rfl) [1, 2, 3, 4, 5, 0] rfl ?_
        refine ro_aload_n F dX6_hears_175 0 rfl ?_
        refine mo_gr F 23 (Nat.le_of_ble_eq_true rfl) (by decide) lkX6_59 rfl dX6_hears_176 ?_
        refine ro_iload F dX6_hears_179 4 rfl ?_
        refine ro_dup2 F dX6_hears_181 rfl rfl ?_
        refine mo_ldN F 23 9 rfl (by decide) (by decide) rfl (by omega) dX6_hears_182 rfl ?_
        refine ro_iconst (v := (nI 2)) F dX6_hears_183 (by decide) ?_
        refine ro_iload F dX6_hears_184 5 rfl ?_
        refine ro_imul F dX6_hears_186 ?_
        refine ro_isub F dX6_hears_187 ?_
        refine mo_stN F hA 23 9 rfl (by decide) (by decide) rfl (by omega) dX6_hears_188 ?_
        refine ro_aload_n F dX6_hears_189 0 rfl ?_
        refine mo_gr F 19 (Nat.le_of_ble_eq_true rfl) (by decide) lkX6_47 rfl dX6_hears_190 ?_
        refine ro_iload_n F dX6_hears_193 1 rfl ?_
        refine ro_dup2 F dX6_hears_194 rfl rfl ?_
        refine mo_ldN F 19 8 rfl (by decide) (by decide) rfl (by omega) dX6_hears_195 (m2_f _ _ (by decide)) ?_
        refine ro_iload F dX6_hears_196 5 rfl ?_
        refine ro_isub F dX6_hears_198 ?_
        refine mo_stN F hA 19 8 rfl (by decide) (by decide) rfl (by omega) dX6_hears_199 ?_
        refine ro_aload_n F dX6_hears_200 0 rfl ?_
        refine mo_gr F 21 (Nat.le_of_ble_eq_true rfl) (by decide) lkX6_53 rfl dX6_hears_201 ?_
        refine ro_iload_n F dX6_hears_204 3 rfl ?_
        refine ro_dup2 F dX6_hears_205 rfl rfl ?_
        refine mo_ldN F 21 160 rfl (by decide) (by decide) rfl (by omega) dX6_hears_206 ((m2_f _ _ (by decide)).trans (m2_f _ _ (by decide))) ?_
        refine ro_iload F dX6_hears_207 5 rfl ?_
        refine ro_iadd F dX6_hears_209 ?_
        refine mo_stN F hA 21 160 rfl (by decide) (by decide) rfl (by omega) dX6_hears_210 ?_
        refine ro_aload_n F dX6_hears_211 0 rfl ?_
        refine mo_gr F 22 (Nat.le_of_ble_eq_true rfl) (by decide) lkX6_56 rfl dX6_hears_212 ?_
        refine ro_iload_n F dX6_hears_215 3 rfl ?_
        refine ro_dup2 F dX6_hears_216 rfl rfl ?_
        refine mo_ldN F 22 160 rfl (by decide) (by decide) rfl (by omega) dX6_hears_217 ((m2_f _ _ (by decide)).trans ((m2_f _ _ (by decide)).trans (m2_f _ _ (by decide)))) ?_
        refine ro_iload F dX6_hears_218 5 rfl ?_
        refine ro_iadd F dX6_hears_220 ?_
        refine mo_stN F hA 22 160 rfl (by decide) (by decide) rfl (by omega) dX6_hears_221 ?_
        refine ro_aload_n F dX6_hears_222 0 rfl ?_
        refine ro_iload F dX6_hears_223 5 rfl ?_
        have J244_225 : Wd (PicM X) g 6 (m2 (m2 (m2 (m2 b112 23 i112 ((b112 23 i112) - ((nI 2) * (if (b112 19 k) ≤ ((b112 23 i112) / (nI 2)) then (b112 19 k) else ((b112 23 i112) / (nI 2)))))) 19 k ((b112 19 k) - (if (b112 19 k) ≤ ((b112 23 i112) / (nI 2)) then (b112 19 k) else ((b112 23 i112) / (nI 2))))) 21 ((20 * k) + day) ((b112 21 ((20 * k) + day)) + (if (b112 19 k) ≤ ((b112 23 i112) / (nI 2)) then (b112 19 k) else ((b112 23 i112) / (nI 2))))) 22 ((20 * k) + day) ((b112 22 ((20 * k) + day)) + (if (b112 19 k) ≤ ((b112 23 i112) / (nI 2)) then (b112 19 k) else ((b112 23 i112) / (nI 2))))) 0 0 244 [(0, .ref (mx_ad X 40)), (1, .int (nI k)), (2, .int (nI day)), (3, .int (nI ((20 * k) + day))), (4, .int (nI i112)), (5, .int (if (b112 19 k) ≤ ((b112 23 i112) / (nI 2)) then (b112 19 k) else ((b112 23 i112) / (nI 2))))] [.int (if (if (b112 19 k) ≤ ((b112 23 i112) / (nI 2)) then (b112 19 k) else ((b112 23 i112) / (nI 2))) ≤ 0 then (b112 27 0) else (if (b112 26 0) = (-1) then (nI k) else (b112 27 0))), .ref (mx_ad X 40)] := by
          refine mo_put F hA 27 (Nat.le_of_ble_eq_true rfl) rfl rfl rfl lkX6_188 rfl dX6_hears_244 ?_
          refine ro_aload_n F dX6_hears_247 0 rfl ?_
          refine ro_iload F dX6_hears_248 5 rfl ?_
          have J269_250 : Wd (PicM X) g 6 (m2 (m2 (m2 (m2 (m2 b112 23 i112 ((b112 23 i112) - ((nI 2) * (if (b112 19 k) ≤ ((b112 23 i112) / (nI 2)) then (b112 19 k) else ((b112 23 i112) / (nI 2)))))) 19 k ((b112 19 k) - (if (b112 19 k) ≤ ((b112 23 i112) / (nI 2)) then (b112 19 k) else ((b112 23 i112) / (nI 2))))) 21 ((20 * k) + day) ((b112 21 ((20 * k) + day)) + (if (b112 19 k) ≤ ((b112 23 i112) / (nI 2)) then (b112 19 k) else ((b112 23 i112) / (nI 2))))) 22 ((20 * k) + day) ((b112 22 ((20 * k) + day)) + (if (b112 19 k) ≤ ((b112 23 i112) / (nI 2)) then (b112 19 k) else ((b112 23 i112) / (nI 2))))) 27 0 (if (if (b112 19 k) ≤ ((b112 23 i112) / (nI 2)) then (b112 19 k) else ((b112 23 i112) / (nI 2))) ≤ 0 then (b112 27 0) else (if (b112 26 0) = (-1) then (nI k) else (b112 27 0)))) 0 0 269 [(0, .ref (mx_ad X 40)), (1, .int (nI k)), (2, .int (nI day)), (3, .int (nI ((20 * k) + day))), (4, .int (nI i112))] [.int (if (if (b112 19 k) ≤ ((b112 23 i112) / (nI 2)) then (b112 19 k) else ((b112 23 i112) / (nI 2))) ≤ 0 then (b112 26 0) else (if (b112 26 0) = (-1) then (nI day) else (b112 26 0))), .ref (mx_ad X 40)] := by
            refine mo_put F hA 26 (Nat.le_of_ble_eq_true rfl) rfl rfl rfl lkX6_185 rfl dX6_hears_269 ?_
            exact Wd.to J272_134 (by simp only [if_neg c134]) rfl rfl
          refine ro_if_le (tgt := 265) F dX6_hears_250 (by decide) (fun c250 => ?_) (fun c250 => ?_)
          · refine ro_aload_n F dX6_hears_265 0 rfl ?_
            refine mo_gi F 26 (Nat.le_of_ble_eq_true rfl) rfl lkX6_185 rfl dX6_hears_266 ((m2_f _ _ (by decide)).trans ((m2_f _ _ (by decide)).trans ((m2_f _ _ (by decide)).trans ((m2_f _ _ (by decide)).trans (m2_f _ _ (by decide)))))) ?_
            exact Wd.sub (lv' := [(0, .ref (mx_ad X 40)), (1, .int (nI k)), (2, .int (nI day)), (3, .int (nI ((20 * k) + day))), (4, .int (nI i112))]) [0, 1, 2, 3, 4] rfl <| Wd.to J269_250 rfl rfl (congrArg (fun z => ([Value.int z, .ref (mx_ad X 40)] : List Value)) (by simp only [if_pos c250]))
          · refine ro_aload_n F dX6_hears_253 0 rfl ?_
            refine mo_gi F 26 (Nat.le_of_ble_eq_true rfl) rfl lkX6_185 rfl dX6_hears_254 ((m2_f _ _ (by decide)).trans ((m2_f _ _ (by decide)).trans ((m2_f _ _ (by decide)).trans ((m2_f _ _ (by decide)).trans (m2_f _ _ (by decide)))))) ?_
            refine ro_iconst (v := (-1)) F dX6_hears_257 (by decide) ?_
            refine ro_icmp_ne (tgt := 265) F dX6_hears_258 (by decide) (fun c258 => ?_) (fun c258 => ?_)
            · refine ro_aload_n F dX6_hears_265 0 rfl ?_
              refine mo_gi F 26 (Nat.le_of_ble_eq_true rfl) rfl lkX6_185 rfl dX6_hears_266 ((m2_f _ _ (by decide)).trans ((m2_f _ _ (by decide)).trans ((m2_f _ _ (by decide)).trans ((m2_f _ _ (by decide)).trans (m2_f _ _ (by decide)))))) ?_
              exact Wd.sub (lv' := [(0, .ref (mx_ad X 40)), (1, .int (nI k)), (2, .int (nI day)), (3, .int (nI ((20 * k) + day))), (4, .int (nI i112))]) [0, 1, 2, 3, 4] rfl <| Wd.to J269_250 rfl rfl (congrArg (fun z => ([Value.int z, .ref (mx_ad X 40)] : List Value)) (by simp only [if_neg c250, if_neg c258]))
            · refine ro_iload_n F dX6_hears_261 2 rfl ?_
              refine ro_goto (tgt := 269) F dX6_hears_262 (by decide) ?_
              exact Wd.sub (lv' := [(0, .ref (mx_ad X 40)), (1, .int (nI k)), (2, .int (nI day)), (3, .int (nI ((20 * k) + day))), (4, .int (nI i112))]) [0, 1, 2, 3, 4] rfl <| Wd.to J269_250 rfl rfl (congrArg (fun z => ([Value.int z, .ref (mx_ad X 40)] : List Value)) (by simp only [if_neg c250, if_pos c258]))
        refine ro_if_le (tgt := 240) F dX6_hears_225 (by decide) (fun c225 => ?_) (fun c225 => ?_)
        · refine ro_aload_n F dX6_hears_240 0 rfl ?_
          refine mo_gi F 27 (Nat.le_of_ble_eq_true rfl) rfl lkX6_188 rfl dX6_hears_241 ((m2_f _ _ (by decide)).trans ((m2_f _ _ (by decide)).trans ((m2_f _ _ (by decide)).trans (m2_f _ _ (by decide))))) ?_
          exact Wd.to J244_225 rfl rfl (congrArg (fun z => ([Value.int z, .ref (mx_ad X 40)] : List Value)) (by simp only [if_pos c225]))
        · refine ro_aload_n F dX6_hears_228 0 rfl ?_
          refine mo_gi F 26 (Nat.le_of_ble_eq_true rfl) rfl lkX6_185 rfl dX6_hears_229 ((m2_f _ _ (by decide)).trans ((m2_f _ _ (by decide)).trans ((m2_f _ _ (by decide)).trans (m2_f _ _ (by decide))))) ?_
          refine ro_iconst (v := (-1)) F dX6_hears_232 (by decide) ?_
          refine ro_icmp_ne (tgt := 240) F dX6_hears_233 (by decide) (fun c233 => ?_) (fun c233 => ?_)
          · refine ro_aload_n F dX6_hears_240 0 rfl ?_
            refine mo_gi F 27 (Nat.le_of_ble_eq_true rfl) rfl lkX6_188 rfl dX6_hears_241 ((m2_f _ _ (by decide)).trans ((m2_f _ _ (by decide)).trans ((m2_f _ _ (by decide)).trans (m2_f _ _ (by decide))))) ?_
            exact Wd.to J244_225 rfl rfl (congrArg (fun z => ([Value.int z, .ref (mx_ad X 40)] : List Value)) (by simp only [if_neg c225, if_neg c233]))
          · refine ro_iload_n F dX6_hears_236 1 rfl ?_
            refine ro_goto (tgt := 244) F dX6_hears_237 (by decide) ?_
            exact Wd.to J244_225 rfl rfl (congrArg (fun z => ([Value.int z, .ref (mx_ad X 40)] : List Value)) (by simp only [if_neg c225, if_pos c233]))
      refine ro_icmp_ge (tgt := 167) F dX6_hears_152 (by decide) (fun c152 => ?_) (fun c152 => ?_)
      · refine ro_aload_n F dX6_hears_167 0 rfl ?_
        refine mo_gr F 19 (Nat.le_of_ble_eq_true rfl) (by decide) lkX6_47 rfl dX6_hears_168 ?_
        refine ro_iload_n F dX6_hears_171 1 rfl ?_
        refine mo_ldN F 19 8 rfl (by decide) (by decide) rfl (by omega) dX6_hears_172 rfl ?_
        exact Wd.to J173_152 rfl rfl (congrArg (fun z => ([Value.int z] : List Value)) (by simp only [if_pos c152]))
      · refine ro_aload_n F dX6_hears_155 0 rfl ?_
        refine mo_gr F 23 (Nat.le_of_ble_eq_true rfl) (by decide) lkX6_59 rfl dX6_hears_156 ?_
        refine ro_iload F dX6_hears_159 4 rfl ?_
        refine mo_ldN F 23 9 rfl (by decide) (by decide) rfl (by omega) dX6_hears_161 rfl ?_
        refine ro_iconst (v := (nI 2)) F dX6_hears_162 (by decide) ?_
        refine ro_idiv F dX6_hears_163 (by decide) ?_
        refine ro_goto (tgt := 173) F dX6_hears_164 (by decide) ?_
        exact Wd.to J173_152 rfl rfl (congrArg (fun z => ([Value.int z] : List Value)) (by simp only [if_neg c152]))
  subst he112
  refine ro_iload F dX6_hears_112 4 rfl ?_
  refine ro_aload_n F dX6_hears_114 0 rfl ?_
  refine mo_gi F 6 (Nat.le_of_ble_eq_true rfl) rfl lkX6_125 rfl dX6_hears_115 ((congrFun (fi_lX6_hears_112 k day m (it (lX6_hears_10 k day m) m np) np 6 (by decide) (by decide) (by decide) (by decide) (by decide) (by decide)) 0).trans ((congrFun (fi_lX6_hears_10 k day m m np 6 (by decide) (by decide) (by decide)) 0).trans (hnp))) ?_
  refine ro_icmp_geN (tgt := 278) F dX6_hears_118 (by decide) (by omega) (by omega) (fun c118 => ?_) (fun c118 => absurd c118 (by omega))
  exact hret _ _ _ _ _ (Nat.le_refl _) (Nat.le_refl _) dX6_hears_278 ⟨rfl, rfl⟩
noncomputable def lX6_goesBy_4 (day : Nat) (m : Mem) (i4 : Nat) (b4 : Mem) : Mem := (m2 b4 23 i4 (if (m 18 day) = 0 then ((nI 10) * (m 7 i4)) else ((nI 5) * (m 7 i4))))
theorem fr_lX6_goesBy_4 (day : Nat) (m : Mem) (i4 : Nat) (b4 : Mem) (f : Nat) (h23 : f ≠ 23) : lX6_goesBy_4 day m i4 b4 f = b4 f := (m2_ff _ _ h23).trans (rfl)
theorem fi_lX6_goesBy_4 (day : Nat) (m : Mem) (b4 : Mem) (n_ : Nat) (f : Nat) (h23 : f ≠ 23) : (it (lX6_goesBy_4 day m) b4 n_) f = b4 f := it_fr (fun i_ b_ => fr_lX6_goesBy_4 day m i_ b_ f h23) n_
noncomputable def lX6_goesBy_55 (m : Mem) (i55 : Nat) (b55 : Mem) : Mem := (m2 (m2 b55 19 i55 ((b55 19 i55) + (if (m 4 i55) = (nI 1) then ((b55 19 i55) / (nI 10)) else (nI 0)))) 19 i55 (((b55 19 i55) + (if (m 4 i55) = (nI 1) then ((b55 19 i55) / (nI 10)) else (nI 0))) + ((m 3 i55) * (m 16 0))))
theorem fr_lX6_goesBy_55 (m : Mem) (i55 : Nat) (b55 : Mem) (f : Nat) (h19 : f ≠ 19) : lX6_goesBy_55 m i55 b55 f = b55 f := (m2_ff _ _ h19).trans ((m2_ff _ _ h19).trans (rfl))
theorem fi_lX6_goesBy_55 (m : Mem) (b55 : Mem) (n_ : Nat) (f : Nat) (h19 : f ≠ 19) : (it (lX6_goesBy_55 m) b55 n_) f = b55 f := it_fr (fun i_ b_ => fr_lX6_goesBy_55 m i_ b_ f h19) n_
noncomputable def lX6_goesBy_123 (day : Nat) (np : Nat) (m : Mem) (i123 : Nat) (b123 : Mem) : Mem := (m2 (if (m 4 i123) = 0 then (fX6_hears i123 day np (m2 (m2 b123 21 ((20 * i123) + day) (nI 0)) 22 ((20 * i123) + day) (nI 0))) else (if (m 17 ((20 * i123) + day)) = 0 then (if (m 25 0) = (-1) then (m2 (m2 b123 21 ((20 * i123) + day) (nI 0)) 22 ((20 * i123) + day) (nI 0)) else (if (nI day) < (m 25 0) then (m2 (m2 b123 21 ((20 * i123) + day) (nI 0)) 22 ((20 * i123) + day) (nI 0)) else (fX6_hears i123 day np (m2 (m2 b123 21 ((20 * i123) + day) (nI 0)) 22 ((20 * i123) + day) (nI 0))))) else (fX6_hears i123 day np (m2 (m2 b123 21 ((20 * i123) + day) (nI 0)) 22 ((20 * i123) + day) (nI 0))))) 20 ((20 * i123) + day) (if (m 4 i123) = 0 then ((fX6_hears i123 day np (m2 (m2 b123 21 ((20 * i123) + day) (nI 0)) 22 ((20 * i123) + day) (nI 0))) 19 i123) else (if (m 17 ((20 * i123) + day)) = 0 then (if (m 25 0) = (-1) then (b123 19 i123) else (if (nI day) < (m 25 0) then (b123 19 i123) else ((fX6_hears i123 day np (m2 (m2 b123 21 ((20 * i123) + day) (nI 0)) 22 ((20 * i123) + day) (nI 0))) 19 i123))) else ((fX6_hears i123 day np (m2 (m2 b123 21 ((20 * i123) + day) (nI 0)) 22 ((20 * i123) + day) (nI 0))) 19 i123))))
theorem fr_lX6_goesBy_123 (day : Nat) (np : Nat) (m : Mem) (i123 : Nat) (b123 : Mem) (f : Nat) (h19 : f ≠ 19) (h20 : f ≠ 20) (h21 : f ≠ 21) (h22 : f ≠ 22) (h23 : f ≠ 23) (h26 : f ≠ 26) (h27 : f ≠ 27) : lX6_goesBy_123 day np m i123 b123 f = b123 f := (m2_ff _ _ h20).trans (ite_fr ((fr_fX6_hears i123 day np (m2 (m2 b123 21 ((20 * i123) + day) (nI 0)) 22 ((20 * i123) + day) (nI 0)) f h19 h21 h22 h23 h26 h27).trans ((m2_ff _ _ h22).trans ((m2_ff _ _ h21).trans (rfl)))) (ite_fr (ite_fr ((m2_ff _ _ h22).trans ((m2_ff _ _ h21).trans (rfl))) (ite_fr ((m2_ff _ _ h22).trans ((m2_ff _ _ h21).trans (rfl))) ((fr_fX6_hears i123 day np (m2 (m2 b123 21 ((20 * i123) + day) (nI 0)) 22 ((20 * i123) + day) (nI 0)) f h19 h21 h22 h23 h26 h27).trans ((m2_ff _ _ h22).trans ((m2_ff _ _ h21).trans (rfl)))))) ((fr_fX6_hears i123 day np (m2 (m2 b123 21 ((20 * i123) + day) (nI 0)) 22 ((20 * i123) + day) (nI 0)) f h19 h21 h22 h23 h26 h27).trans ((m2_ff _ _ h22).trans ((m2_ff _ _ h21).trans (rfl))))))
theorem fi_lX6_goesBy_123 (day : Nat) (np : Nat) (m : Mem) (b123 : Mem) (n_ : Nat) (f : Nat) (h19 : f ≠ 19) (h20 : f ≠ 20) (h21 : f ≠ 21) (h22 : f ≠ 22) (h23 : f ≠ 23) (h26 : f ≠ 26) (h27 : f ≠ 27) : (it (lX6_goesBy_123 day np m) b123 n_) f = b123 f := it_fr (fun i_ b_ => fr_lX6_goesBy_123 day np m i_ b_ f h19 h20 h21 h22 h23 h26 h27) n_
noncomputable def lX6_goesBy_225 (day : Nat) (np : Nat) (ns : Nat) (m : Mem) (i225 : Nat) (b225 : Int32) : Int32 := (b225 + ((it (lX6_goesBy_123 day np m) (it (lX6_goesBy_55 m) (it (lX6_goesBy_4 day m) m np) ns) ns) 19 i225))
noncomputable def lX6_goesBy_250 (day : Nat) (np : Nat) (ns : Nat) (m : Mem) (i250 : Nat) (b250 : Mem) : Mem := (m2 b250 24 ((20 * i250) + day) ((it (lX6_goesBy_123 day np m) (it (lX6_goesBy_55 m) (it (lX6_goesBy_4 day m) m np) ns) ns) 23 i250))
theorem fr_lX6_goesBy_250 (day : Nat) (np : Nat) (ns : Nat) (m : Mem) (i250 : Nat) (b250 : Mem) (f : Nat) (h24 : f ≠ 24) : lX6_goesBy_250 day np ns m i250 b250 f = b250 f := (m2_ff _ _ h24).trans (rfl)
theorem fi_lX6_goesBy_250 (day : Nat) (np : Nat) (ns : Nat) (m : Mem) (b250 : Mem) (n_ : Nat) (f : Nat) (h24 : f ≠ 24) : (it (lX6_goesBy_250 day np ns m) b250 n_) f = b250 f := it_fr (fun i_ b_ => fr_lX6_goesBy_250 day np ns m i_ b_ f h24) n_
noncomputable def fX6_goesBy (day : Nat) (np : Nat) (ns : Nat) (m : Mem) : Mem := (m2 (it (lX6_goesBy_250 day np ns m) (it (lX6_goesBy_123 day np m) (it (lX6_goesBy_55 m) (it (lX6_goesBy_4 day m) m np) ns) ns) np) 25 0 (if (m 25 0) = (-1) then (if (it (lX6_goesBy_225 day np ns m) (nI 0) ns) ≤ (m 10 0) then (m 25 0) else (if 19 ≤ day then (m 25 0) else (nI (day + 1)))) else (m 25 0)))
theorem fr_fX6_goesBy (day : Nat) (np : Nat) (ns : Nat) (m : Mem) (f : Nat) (h19 : f ≠ 19) (h20 : f ≠ 20) (h21 : f ≠ 21) (h22 : f ≠ 22) (h23 : f ≠ 23) (h24 : f ≠ 24) (h25 : f ≠ 25) (h26 : f ≠ 26) (h27 : f ≠ 27) : fX6_goesBy day np ns m f = m f := (m2_ff _ _ h25).trans ((fi_lX6_goesBy_250 day np ns m (it (lX6_goesBy_123 day np m) (it (lX6_goesBy_55 m) (it (lX6_goesBy_4 day m) m np) ns) ns) np f h24).trans ((fi_lX6_goesBy_123 day np m (it (lX6_goesBy_55 m) (it (lX6_goesBy_4 day m) m np) ns) ns f h19 h20 h21 h22 h23 h26 h27).trans ((fi_lX6_goesBy_55 m (it (lX6_goesBy_4 day m) m np) ns f h19).trans ((fi_lX6_goesBy_4 day m m np f h23).trans (rfl)))))
set_option maxHeartbeats 4000000 in
set_option maxRecDepth 100000 in
theorem metX6_goesBy (l : Launch) (X : Mx) (m : Mem) (day : Nat) (np : Nat) (ns : Nat) (hnp : m 6 0 = nI np) (lnp : np ≤ 9) (hns : m 2 0 = nI ns) (lns : ns ≤ 8) (hday : day < 20) : Cn l yX6_goesBy (ws_ yX6_goesBy cX6_goesBy 4 none) 2 0 0 [.ref (mx_ad X 40), .int (nI day)] (PicM X) (KM X) (mx_A X) m (fun rv_ w_ => rv_ = none ∧ w_ = (fX6_goesBy day np ns m)) := by
  refine cn_v (own := RX6) rfl (Nat.le_of_ble_eq_true rfl) rfl (fun g hgl hA F hret => ?_)
  refine Wd.eql (lv' := [(0, .ref (mx_ad X 40)), (1, .int (nI day))]) rfl ?_
  refine ro_iconst (v := (nI 0)) F dX6_goesBy_0 (by decide) ?_
  refine ro_istore_n (lv' := [(0, .ref (mx_ad X 40)), (1, .int (nI day)), (2, .int (nI 0))]) F dX6_goesBy_1 (Nat.le_of_ble_eq_true rfl) [1, 2, 0] rfl ?_
  refine ro_iconst (v := (nI 0)) F dX6_goesBy_2 (by decide) ?_
  refine ro_istore_n (lv' := [(0, .ref (mx_ad X 40)), (1, .int (nI day)), (2, .int (nI 0)), (3, .int (nI 0))]) F dX6_goesBy_3 (Nat.le_of_ble_eq_true rfl) [1, 2, 3, 0] rfl ?_
  refine it_loop np (lX6_goesBy_4 day m) m (fun (_ : Nat) (b4 : Mem) => ∀ f : Nat, f ≠ 23 → b4 f = m f) (fun (i4 : Nat) (b4 : Mem) => Wd (PicM X) g 4 b4 0 0 4 [(0, .ref (mx_ad X 40)), (1, .int (nI day)), (2, .int (nI 0)), (3, .int (nI i4))] []) (fun f _ => rfl) (fun i_ b_ _ hb f h23 => (fr_lX6_goesBy_4 day m i_ b_ f h23).trans (hb f h23)) (fun i4 b4 hi4 hf4 ih4 => ?_) (fun b4 hf4 he4 => ?_)
  · refine ro_iload_n F dX6_goesBy_4 3 rfl ?_
    refine ro_aload_n F dX6_goesBy_5 0 rfl ?_
    refine mo_gi F 6 (Nat.le_of_ble_eq_true rfl) rfl lkX6_125 rfl dX6_goesBy_6 ((congrFun (hf4 6 (by decide)) 0).trans (hnp)) ?_
    refine ro_icmp_geN (tgt := 53) F dX6_goesBy_9 (by decide) (by omega) (by omega) (fun c9 => absurd c9 (by omega)) (fun c9 => ?_)
    refine ro_aload_n F dX6_goesBy_12 0 rfl ?_
    refine mo_gr F 23 (Nat.le_of_ble_eq_true rfl) (by decide) lkX6_59 rfl dX6_goesBy_13 ?_
    refine ro_iload_n F dX6_goesBy_16 3 rfl ?_
    refine ro_aload_n F dX6_goesBy_17 0 rfl ?_
    refine mo_gr F 18 (Nat.le_of_ble_eq_true rfl) (by decide) lkX6_44 rfl dX6_goesBy_18 ?_
    refine ro_iload_n F dX6_goesBy_21 1 rfl ?_
    refine mo_ldZ F 18 20 rfl (by decide) (by decide) rfl (by omega) dX6_goesBy_22 (congrFun (hf4 18 (by decide)) day) ?_
    have J46_23 : Wd (PicM X) g 4 b4 0 0 46 [(0, .ref (mx_ad X 40)), (1, .int (nI day)), (2, .int (nI 0)), (3, .int (nI i4))] [.int (if (m 18 day) = 0 then ((nI 10) * (m 7 i4)) else ((nI 5) * (m 7 i4))), .int (nI i4), .ref (mx_ad X 23)] := by
      refine mo_stN F hA 23 9 rfl (by decide) (by decide) rfl (by omega) dX6_goesBy_46 ?_
      refine ro_iincN (z := 1) (lv' := [(0, .ref (mx_ad X 40)), (1, .int (nI day)), (2, .int (nI 0)), (3, .int (nI (i4 + 1)))]) F dX6_goesBy_47 3 rfl (Nat.le_of_ble_eq_true rfl) [1, 2, 3, 0] rfl ?_
      refine ro_goto (tgt := 4) F dX6_goesBy_50 (by decide) ?_
      exact ih4
    refine ro_if_eq (tgt := 37) F dX6_goesBy_23 (by decide) (fun c23 => ?_) (fun c23 => ?_)
    · refine ro_bipush (v := (nI 10)) F dX6_goesBy_37 (by decide) ?_
      refine ro_aload_n F dX6_goesBy_39 0 rfl ?_
      refine mo_gr F 7 (Nat.le_of_ble_eq_true rfl) (by decide) lkX6_25 rfl dX6_goesBy_40 ?_
      refine ro_iload_n F dX6_goesBy_43 3 rfl ?_
      refine mo_ldN F 7 9 rfl (by decide) (by decide) rfl (by omega) dX6_goesBy_44 (congrFun (hf4 7 (by decide)) i4) ?_
      refine ro_imul F dX6_goesBy_45 ?_
      exact Wd.to J46_23 rfl rfl (congrArg (fun z => ([Value.int z, .int (nI i4), .ref (mx_ad X 23)] : List Value)) (by simp only [if_pos c23]))
    · refine ro_iconst (v := (nI 5)) F dX6_goesBy_26 (by decide) ?_
      refine ro_aload_n F dX6_goesBy_27 0 rfl ?_
      refine mo_gr F 7 (Nat.le_of_ble_eq_true rfl) (by decide) lkX6_25 rfl dX6_goesBy_28 ?_
      refine ro_iload_n F dX6_goesBy_31 3 rfl ?_
      refine mo_ldN F 7 9 rfl (by decide) (by decide) rfl (by omega) dX6_goesBy_32 (congrFun (hf4 7 (by decide)) i4) ?_
      refine ro_imul F dX6_goesBy_33 ?_
      refine ro_goto (tgt := 46) F dX6_goesBy_34 (by decide) ?_
      exact Wd.to J46_23 rfl rfl (congrArg (fun z => ([Value.int z, .int (nI i4), .ref (mx_ad X 23)] : List Value)) (by simp only [if_neg c23]))
  subst he4
  refine ro_iload_n F dX6_goesBy_4 3 rfl ?_
  refine ro_aload_n F dX6_goesBy_5 0 rfl ?_
  refine mo_gi F 6 (Nat.le_of_ble_eq_true rfl) rfl lkX6_125 rfl dX6_goesBy_6 ((congrFun (fi_lX6_goesBy_4 day m m np 6 (by decide)) 0).trans (hnp)) ?_
  refine ro_icmp_geN (tgt := 53) F dX6_goesBy_9 (by decide) (by omega) (by omega) (fun c9 => ?_) (fun c9 => absurd c9 (by omega))
  refine ro_iconst (v := (nI 0)) F dX6_goesBy_53 (by decide) ?_
  refine ro_istore_n (lv' := [(0, .ref (mx_ad X 40)), (1, .int (nI day)), (2, .int (nI 0)), (3, .int (nI 0))]) F dX6_goesBy_54 (Nat.le_of_ble_eq_true rfl) [1, 2, 3, 0] rfl ?_
  refine it_loop ns (lX6_goesBy_55 m) (it (lX6_goesBy_4 day m) m np) (fun (_ : Nat) (b55 : Mem) => ∀ f : Nat, f ≠ 19 → b55 f = (it (lX6_goesBy_4 day m) m np) f) (fun (i55 : Nat) (b55 : Mem) => Wd (PicM X) g 4 b55 0 0 55 [(0, .ref (mx_ad X 40)), (1, .int (nI day)), (2, .int (nI 0)), (3, .int (nI i55))] []) (fun f _ => rfl) (fun i_ b_ _ hb f h19 => (fr_lX6_goesBy_55 m i_ b_ f h19).trans (hb f h19)) (fun i55 b55 hi55 hf55 ih55 => ?_) (fun b55 hf55 he55 => ?_)
  · refine ro_iload_n F dX6_goesBy_55 3 rfl ?_
    refine ro_aload_n F dX6_goesBy_56 0 rfl ?_
    refine mo_gi F 2 (Nat.le_of_ble_eq_true rfl) rfl lkX6_122 rfl dX6_goesBy_57 ((congrFun (hf55 2 (by decide)) 0).trans ((congrFun (fi_lX6_goesBy_4 day m m np 2 (by decide)) 0).trans (hns))) ?_
    refine ro_icmp_geN (tgt := 121) F dX6_goesBy_60 (by decide) (by omega) (by omega) (fun c60 => absurd c60 (by omega)) (fun c60 => ?_)
    refine ro_aload_n F dX6_goesBy_63 0 rfl ?_
    refine mo_gr F 19 (Nat.le_of_ble_eq_true rfl) (by decide) lkX6_47 rfl dX6_goesBy_64 ?_
    refine ro_iload_n F dX6_goesBy_67 3 rfl ?_
    refine ro_dup2 F dX6_goesBy_68 rfl rfl ?_
    refine mo_ldN F 19 8 rfl (by decide) (by decide) rfl (by omega) dX6_goesBy_69 rfl ?_
    refine ro_aload_n F dX6_goesBy_70 0 rfl ?_
    refine mo_gr F 4 (Nat.le_of_ble_eq_true rfl) (by decide) lkX6_19 rfl dX6_goesBy_71 ?_
    refine ro_iload_n F dX6_goesBy_74 3 rfl ?_
    refine mo_ldN F 4 9 rfl (by decide) (by decide) rfl (by omega) dX6_goesBy_75 ((congrFun (hf55 4 (by decide)) i55).trans (congrFun (fi_lX6_goesBy_4 day m m np 4 (by decide)) i55)) ?_
    refine ro_iconst (v := (nI 1)) F dX6_goesBy_76 (by decide) ?_
    have J93_77 : Wd (PicM X) g 4 b55 0 0 93 [(0, .ref (mx_ad X 40)), (1, .int (nI day)), (2, .int (nI 0)), (3, .int (nI i55))] [.int (if (m 4 i55) = (nI 1) then ((b55 19 i55) / (nI 10)) else (nI 0)), .int (b55 19 i55), .int (nI i55), .ref (mx_ad X 19)] := by
      refine ro_iadd F dX6_goesBy_93 ?_
      refine mo_stN F hA 19 8 rfl (by decide) (by decide) rfl (by omega) dX6_goesBy_94 ?_
      refine ro_aload_n F dX6_goesBy_95 0 rfl ?_
      refine mo_gr F 19 (Nat.le_of_ble_eq_true rfl) (by decide) lkX6_47 rfl dX6_goesBy_96 ?_
      refine ro_iload_n F dX6_goesBy_99 3 rfl ?_
      refine ro_dup2 F dX6_goesBy_100 rfl rfl ?_
      refine mo_ldN F 19 8 rfl (by decide) (by decide) rfl (by omega) dX6_goesBy_101 (m2_self _ _ _ _) ?_
      refine ro_aload_n F dX6_goesBy_102 0 rfl ?_
      refine mo_gr F 3 (Nat.le_of_ble_eq_true rfl) (by decide) lkX6_16 rfl dX6_goesBy_103 ?_
      refine ro_iload_n F dX6_goesBy_106 3 rfl ?_
      refine mo_ldN F 3 9 rfl (by decide) (by decide) rfl (by omega) dX6_goesBy_107 ((m2_f _ _ (by decide)).trans ((congrFun (hf55 3 (by decide)) i55).trans (congrFun (fi_lX6_goesBy_4 day m m np 3 (by decide)) i55))) ?_
      refine ro_aload_n F dX6_goesBy_108 0 rfl ?_
      refine mo_gi F 16 (Nat.le_of_ble_eq_true rfl) rfl lkX6_178 rfl dX6_goesBy_109 ((m2_f _ _ (by decide)).trans ((congrFun (hf55 16 (by decide)) 0).trans (congrFun (fi_lX6_goesBy_4 day m m np 16 (by decide)) 0))) ?_
      refine ro_imul F dX6_goesBy_112 ?_
      refine ro_iadd F dX6_goesBy_113 ?_
      refine mo_stN F hA 19 8 rfl (by decide) (by decide) rfl (by omega) dX6_goesBy_114 ?_
      refine ro_iincN (z := 1) (lv' := [(0, .ref (mx_ad X 40)), (1, .int (nI day)), (2, .int (nI 0)), (3, .int (nI (i55 + 1)))]) F dX6_goesBy_115 3 rfl (Nat.le_of_ble_eq_true rfl) [1, 2, 3, 0] rfl ?_
      refine ro_goto (tgt := 55) F dX6_goesBy_118 (by decide) ?_
      exact ih55
    refine ro_icmp_ne (tgt := 92) F dX6_goesBy_77 (by decide) (fun c77 => ?_) (fun c77 => ?_)
    · refine ro_iconst (v := (nI 0)) F dX6_goesBy_92 (by decide) ?_
      exact Wd.to J93_77 rfl rfl (congrArg (fun z => ([Value.int z, .int (b55 19 i55), .int (nI i55), .ref (mx_ad X 19)] : List Value)) (by simp only [if_neg c77]))
    · refine ro_aload_n F dX6_goesBy_80 0 rfl ?_
      refine mo_gr F 19 (Nat.le_of_ble_eq_true rfl) (by decide) lkX6_47 rfl dX6_goesBy_81 ?_
      refine ro_iload_n F dX6_goesBy_84 3 rfl ?_
      refine mo_ldN F 19 8 rfl (by decide) (by decide) rfl (by omega) dX6_goesBy_85 rfl ?_
      refine ro_bipush (v := (nI 10)) F dX6_goesBy_86 (by decide) ?_
      refine ro_idiv F dX6_goesBy_88 (by decide) ?_
      refine ro_goto (tgt := 93) F dX6_goesBy_89 (by decide) ?_
      exact Wd.to J93_77 rfl rfl (congrArg (fun z => ([Value.int z, .int (b55 19 i55), .int (nI i55), .ref (mx_ad X 19)] : List Value)) (by simp only [if_pos c77]))
  subst he55
  refine ro_iload_n F dX6_goesBy_55 3 rfl ?_
  refine ro_aload_n F dX6_goesBy_56 0 rfl ?_
  refine mo_gi F 2 (Nat.le_of_ble_eq_true rfl) rfl lkX6_122 rfl dX6_goesBy_57 ((congrFun (fi_lX6_goesBy_55 m (it (lX6_goesBy_4 day m) m np) ns 2 (by decide)) 0).trans ((congrFun (fi_lX6_goesBy_4 day m m np 2 (by decide)) 0).trans (hns))) ?_
  refine ro_icmp_geN (tgt := 121) F dX6_goesBy_60 (by decide) (by omega) (by omega) (fun c60 => ?_) (fun c60 => absurd c60 (by omega))
  refine ro_iconst (v := (nI 0)) F dX6_goesBy_121 (by decide) ?_
  refine ro_istore_n (lv' := [(0, .ref (mx_ad X 40)), (1, .int (nI day)), (2, .int (nI 0)), (3, .int (nI 0))]) F dX6_goesBy_122 (Nat.le_of_ble_eq_true rfl) [1, 2, 3, 0] rfl ?_
  refine it_loop ns (lX6_goesBy_123 day np m) (it (lX6_goesBy_55 m) (it (lX6_goesBy_4 day m) m np) ns) (fun (_ : Nat) (b123 : Mem) => ∀ f : Nat, f ≠ 19 → f ≠ 20 → f ≠ 21 → f ≠ 22 → f ≠ 23 → f ≠ 26 → f ≠ 27 → b123 f = (it (lX6_goesBy_55 m) (it (lX6_goesBy_4 day m) m np) ns) f) (fun (i123 : Nat) (b123 : Mem) => Wd (PicM X) g 4 b123 0 0 123 [(0, .ref (mx_ad X 40)), (1, .int (nI day)), (2, .int (nI 0)), (3, .int (nI i123))] []) (fun f _ _ _ _ _ _ _ => rfl) (fun i_ b_ _ hb f h19 h20 h21 h22 h23 h26 h27 => (fr_lX6_goesBy_123 day np m i_ b_ f h19 h20 h21 h22 h23 h26 h27).trans (hb f h19 h20 h21 h22 h23 h26 h27)) (fun i123 b123 hi123 hf123 ih123 => ?_) (fun b123 hf123 he123 => ?_)
  · refine ro_iload_n F dX6_goesBy_123 3 rfl ?_
    refine ro_aload_n F dX6_goesBy_124 0 rfl ?_
    refine mo_gi F 2 (Nat.le_of_ble_eq_true rfl) rfl lkX6_122 rfl dX6_goesBy_125 ((congrFun (hf123 2 (by decide) (by decide) (by decide) (by decide) (by decide) (by decide) (by decide)) 0).trans ((congrFun (fi_lX6_goesBy_55 m (it (lX6_goesBy_4 day m) m np) ns 2 (by decide)) 0).trans ((congrFun (fi_lX6_goesBy_4 day m m np 2 (by decide)) 0).trans (hns)))) ?_
    refine ro_icmp_geN (tgt := 223) F dX6_goesBy_128 (by decide) (by omega) (by omega) (fun c128 => absurd c128 (by omega)) (fun c128 => ?_)
    refine ro_aload_n F dX6_goesBy_131 0 rfl ?_
    refine mo_gr F 21 (Nat.le_of_ble_eq_true rfl) (by decide) lkX6_53 rfl dX6_goesBy_132 ?_
    refine ro_bipush (v := (nI 20)) F dX6_goesBy_135 (by decide) ?_
    refine ro_iload_n F dX6_goesBy_137 3 rfl ?_
    refine ro_imulN F dX6_goesBy_138 ?_
    refine ro_iload_n F dX6_goesBy_139 1 rfl ?_
    refine ro_iaddN F dX6_goesBy_140 ?_
    refine ro_iconst (v := (nI 0)) F dX6_goesBy_141 (by decide) ?_
    refine mo_stN F hA 21 160 rfl (by decide) (by decide) rfl (by omega) dX6_goesBy_142 ?_
    refine ro_aload_n F dX6_goesBy_143 0 rfl ?_
    refine mo_gr F 22 (Nat.le_of_ble_eq_true rfl) (by decide) lkX6_56 rfl dX6_goesBy_144 ?_
    refine ro_bipush (v := (nI 20)) F dX6_goesBy_147 (by decide) ?_
    refine ro_iload_n F dX6_goesBy_149 3 rfl ?_
    refine ro_imulN F dX6_goesBy_150 ?_
    refine ro_iload_n F dX6_goesBy_151 1 rfl ?_
    refine ro_iaddN F dX6_goesBy_152 ?_
    refine ro_iconst (v := (nI 0)) F dX6_goesBy_153 (by decide) ?_
    refine mo_stN F hA 22 160 rfl (by decide) (by decide) rfl (by omega) dX6_goesBy_154 ?_
    refine ro_aload_n F dX6_goesBy_155 0 rfl ?_
    refine mo_gr F 4 (Nat.le_of_ble_eq_true rfl) (by decide) lkX6_19 rfl dX6_goesBy_156 ?_
    refine ro_iload_n F dX6_goesBy_159 3 rfl ?_
    refine mo_ldN F 4 9 rfl (by decide) (by decide) rfl (by omega) dX6_goesBy_160 ((m2_f _ _ (by decide)).trans ((m2_f _ _ (by decide)).trans ((congrFun (hf123 4 (by decide) (by decide) (by decide) (by decide) (by decide) (by decide) (by decide)) i123).trans ((congrFun (fi_lX6_goesBy_55 m (it (lX6_goesBy_4 day m) m np) ns 4 (by decide)) i123).trans (congrFun (fi_lX6_goesBy_4 day m m np 4 (by decide)) i123))))) ?_
    have J200_161 : Wd (PicM X) g 4 (if (m 4 i123) = 0 then (fX6_hears i123 day np (m2 (m2 b123 21 ((20 * i123) + day) (nI 0)) 22 ((20 * i123) + day) (nI 0))) else (if (m 17 ((20 * i123) + day)) = 0 then (if (m 25 0) = (-1) then (m2 (m2 b123 21 ((20 * i123) + day) (nI 0)) 22 ((20 * i123) + day) (nI 0)) else (if (nI day) < (m 25 0) then (m2 (m2 b123 21 ((20 * i123) + day) (nI 0)) 22 ((20 * i123) + day) (nI 0)) else (fX6_hears i123 day np (m2 (m2 b123 21 ((20 * i123) + day) (nI 0)) 22 ((20 * i123) + day) (nI 0))))) else (fX6_hears i123 day np (m2 (m2 b123 21 ((20 * i123) + day) (nI 0)) 22 ((20 * i123) + day) (nI 0))))) 0 0 200 [(0, .ref (mx_ad X 40)), (1, .int (nI day)), (2, .int (nI 0)), (3, .int (nI i123))] [] := by
      refine ro_aload_n F dX6_goesBy_200 0 rfl ?_
      refine mo_gr F 20 (Nat.le_of_ble_eq_true rfl) (by decide) lkX6_50 rfl dX6_goesBy_201 ?_
      refine ro_bipush (v := (nI 20)) F dX6_goesBy_204 (by decide) ?_
      refine ro_iload_n F dX6_goesBy_206 3 rfl ?_
      refine ro_imulN F dX6_goesBy_207 ?_
      refine ro_iload_n F dX6_goesBy_208 1 rfl ?_
      refine ro_iaddN F dX6_goesBy_209 ?_
      refine ro_aload_n F dX6_goesBy_210 0 rfl ?_
      refine mo_gr F 19 (Nat.le_of_ble_eq_true rfl) (by decide) lkX6_47 rfl dX6_goesBy_211 ?_
      refine ro_iload_n F dX6_goesBy_214 3 rfl ?_
      refine mo_ldN F 19 8 rfl (by decide) (by decide) rfl (by omega) dX6_goesBy_215 (ite_rd2 rfl (ite_rd2 (ite_rd2 ((m2_f _ _ (by decide)).trans (m2_f _ _ (by decide))) (ite_rd2 ((m2_f _ _ (by decide)).trans (m2_f _ _ (by decide))) rfl)) rfl)) ?_
      refine mo_stN F hA 20 160 rfl (by decide) (by decide) rfl (by omega) dX6_goesBy_216 ?_
      refine ro_iincN (z := 1) (lv' := [(0, .ref (mx_ad X 40)), (1, .int (nI day)), (2, .int (nI 0)), (3, .int (nI (i123 + 1)))]) F dX6_goesBy_217 3 rfl (Nat.le_of_ble_eq_true rfl) [1, 2, 3, 0] rfl ?_
      refine ro_goto (tgt := 123) F dX6_goesBy_220 (by decide) ?_
      exact ih123
    refine ro_if_eq (tgt := 194) F dX6_goesBy_161 (by decide) (fun c161 => ?_) (fun c161 => ?_)
    · refine ro_aload_n F dX6_goesBy_194 0 rfl ?_
      refine ro_iload_n F dX6_goesBy_195 3 rfl ?_
      refine ro_iload_n F dX6_goesBy_196 1 rfl ?_
      refine mo_cV (rest := []) F hA (metX6_hears (gx_l g) X (m2 (m2 b123 21 ((20 * i123) + day) (nI 0)) 22 ((20 * i123) + day) (nI 0)) i123 day np ((m2_f _ _ (by decide)).trans ((m2_f _ _ (by decide)).trans ((congrFun (hf123 6 (by decide) (by decide) (by decide) (by decide) (by decide) (by decide) (by decide)) 0).trans ((congrFun (fi_lX6_goesBy_55 m (it (lX6_goesBy_4 day m) m np) ns 6 (by decide)) 0).trans ((congrFun (fi_lX6_goesBy_4 day m m np 6 (by decide)) 0).trans (hnp)))))) (by omega) (by omega) (by omega)) cwX6_194 hdX6_hears rfl (Nat.le_of_ble_eq_true rfl) (Nat.le_of_ble_eq_true rfl) (Nat.le_refl _) (Nat.le_refl _) rfl (Nat.le_of_ble_eq_true rfl) dX6_goesBy_197 ?_
      exact Wd.to J200_161 (by simp only [if_pos c161]) rfl rfl
    · refine ro_aload_n F dX6_goesBy_164 0 rfl ?_
      refine mo_gr F 17 (Nat.le_of_ble_eq_true rfl) (by decide) lkX6_40 rfl dX6_goesBy_165 ?_
      refine ro_bipush (v := (nI 20)) F dX6_goesBy_168 (by decide) ?_
      refine ro_iload_n F dX6_goesBy_170 3 rfl ?_
      refine ro_imulN F dX6_goesBy_171 ?_
      refine ro_iload_n F dX6_goesBy_172 1 rfl ?_
      refine ro_iaddN F dX6_goesBy_173 ?_
      refine mo_ldZ F 17 160 rfl (by decide) (by decide) rfl (by omega) dX6_goesBy_174 ((m2_f _ _ (by decide)).trans ((m2_f _ _ (by decide)).trans ((congrFun (hf123 17 (by decide) (by decide) (by decide) (by decide) (by decide) (by decide) (by decide)) ((20 * i123) + day)).trans ((congrFun (fi_lX6_goesBy_55 m (it (lX6_goesBy_4 day m) m np) ns 17 (by decide)) ((20 * i123) + day)).trans (congrFun (fi_lX6_goesBy_4 day m m np 17 (by decide)) ((20 * i123) + day)))))) ?_
      refine ro_if_ne (tgt := 194) F dX6_goesBy_175 (by decide) (fun c175 => ?_) (fun c175 => ?_)
      · refine ro_aload_n F dX6_goesBy_194 0 rfl ?_
        refine ro_iload_n F dX6_goesBy_195 3 rfl ?_
        refine ro_iload_n F dX6_goesBy_196 1 rfl ?_
        refine mo_cV (rest := []) F hA (metX6_hears (gx_l g) X (m2 (m2 b123 21 ((20 * i123) + day) (nI 0)) 22 ((20 * i123) + day) (nI 0)) i123 day np ((m2_f _ _ (by decide)).trans ((m2_f _ _ (by decide)).trans ((congrFun (hf123 6 (by decide) (by decide) (by decide) (by decide) (by decide) (by decide) (by decide)) 0).trans ((congrFun (fi_lX6_goesBy_55 m (it (lX6_goesBy_4 day m) m np) ns 6 (by decide)) 0).trans ((congrFun (fi_lX6_goesBy_4 day m m np 6 (by decide)) 0).trans (hnp)))))) (by omega) (by omega) (by omega)) cwX6_194 hdX6_hears rfl (Nat.le_of_ble_eq_true rfl) (Nat.le_of_ble_eq_true rfl) (Nat.le_refl _) (Nat.le_refl _) rfl (Nat.le_of_ble_eq_true rfl) dX6_goesBy_197 ?_
        exact Wd.to J200_161 (by simp only [if_neg c161, if_neg c175]) rfl rfl
      · refine ro_aload_n F dX6_goesBy_178 0 rfl ?_
        refine mo_gi F 25 (Nat.le_of_ble_eq_true rfl) rfl lkX6_191 rfl dX6_goesBy_179 ((m2_f _ _ (by decide)).trans ((m2_f _ _ (by decide)).trans ((congrFun (hf123 25 (by decide) (by decide) (by decide) (by decide) (by decide) (by decide) (by decide)) 0).trans ((congrFun (fi_lX6_goesBy_55 m (it (lX6_goesBy_4 day m) m np) ns 25 (by decide)) 0).trans (congrFun (fi_lX6_goesBy_4 day m m np 25 (by decide)) 0))))) ?_
        refine ro_iconst (v := (-1)) F dX6_goesBy_182 (by decide) ?_
        refine ro_icmp_eq (tgt := 200) F dX6_goesBy_183 (by decide) (fun c183 => ?_) (fun c183 => ?_)
        · exact Wd.to J200_161 (by simp only [if_neg c161, if_pos c175, if_pos c183]) rfl rfl
        · refine ro_iload_n F dX6_goesBy_186 1 rfl ?_
          refine ro_aload_n F dX6_goesBy_187 0 rfl ?_
          refine mo_gi F 25 (Nat.le_of_ble_eq_true rfl) rfl lkX6_191 rfl dX6_goesBy_188 ((m2_f _ _ (by decide)).trans ((m2_f _ _ (by decide)).trans ((congrFun (hf123 25 (by decide) (by decide) (by decide) (by decide) (by decide) (by decide) (by decide)) 0).trans ((congrFun (fi_lX6_goesBy_55 m (it (lX6_goesBy_4 day m) m np) ns 25 (by decide)) 0).trans (congrFun (fi_lX6_goesBy_4 day m m np 25 (by decide)) 0))))) ?_
          refine ro_icmp_lt (tgt := 200) F dX6_goesBy_191 (by decide) (fun c191 => ?_) (fun c191 => ?_)
          · exact Wd.to J200_161 (by simp only [if_neg c161, if_pos c175, if_neg c183, if_pos c191]) rfl rfl
          · refine ro_aload_n F dX6_goesBy_194 0 rfl ?_
            refine ro_iload_n F dX6_goesBy_195 3 rfl ?_
            refine ro_iload_n F dX6_goesBy_196 1 rfl ?_
            refine mo_cV (rest := []) F hA (metX6_hears (gx_l g) X (m2 (m2 b123 21 ((20 * i123) + day) (nI 0)) 22 ((20 * i123) + day) (nI 0)) i123 day np ((m2_f _ _ (by decide)).trans ((m2_f _ _ (by decide)).trans ((congrFun (hf123 6 (by decide) (by decide) (by decide) (by decide) (by decide) (by decide) (by decide)) 0).trans ((congrFun (fi_lX6_goesBy_55 m (it (lX6_goesBy_4 day m) m np) ns 6 (by decide)) 0).trans ((congrFun (fi_lX6_goesBy_4 day m m np 6 (by decide)) 0).trans (hnp)))))) (by omega) (by omega) (by omega)) cwX6_194 hdX6_hears rfl (Nat.le_of_ble_eq_true rfl) (Nat.le_of_ble_eq_true rfl) (Nat.le_refl _) (Nat.le_refl _) rfl (Nat.le_of_ble_eq_true rfl) dX6_goesBy_197 ?_
            exact Wd.to J200_161 (by simp only [if_neg c161, if_pos c175, if_neg c183, if_neg c191]) rfl rfl
  subst he123
  refine ro_iload_n F dX6_goesBy_123 3 rfl ?_
  refine ro_aload_n F dX6_goesBy_124 0 rfl ?_
  refine mo_gi F 2 (Nat.le_of_ble_eq_true rfl) rfl lkX6_122 rfl dX6_goesBy_125 ((congrFun (fi_lX6_goesBy_123 day np m (it (lX6_goesBy_55 m) (it (lX6_goesBy_4 day m) m np) ns) ns 2 (by decide) (by decide) (by decide) (by decide) (by decide) (by decide) (by decide)) 0).trans ((congrFun (fi_lX6_goesBy_55 m (it (lX6_goesBy_4 day m) m np) ns 2 (by decide)) 0).trans ((congrFun (fi_lX6_goesBy_4 day m m np 2 (by decide)) 0).trans (hns)))) ?_
  refine ro_icmp_geN (tgt := 223) F dX6_goesBy_128 (by decide) (by omega) (by omega) (fun c128 => ?_) (fun c128 => absurd c128 (by omega))
  refine ro_iconst (v := (nI 0)) F dX6_goesBy_223 (by decide) ?_
  refine ro_istore_n (lv' := [(0, .ref (mx_ad X 40)), (1, .int (nI day)), (2, .int (nI 0)), (3, .int (nI 0))]) F dX6_goesBy_224 (Nat.le_of_ble_eq_true rfl) [1, 2, 3, 0] rfl ?_
  refine it_loop ns (lX6_goesBy_225 day np ns m) (nI 0) (fun _ _ => True) (fun (i225 : Nat) (b225 : Int32) => Wd (PicM X) g 4 (it (lX6_goesBy_123 day np m) (it (lX6_goesBy_55 m) (it (lX6_goesBy_4 day m) m np) ns) ns) 0 0 225 [(0, .ref (mx_ad X 40)), (1, .int (nI day)), (2, .int b225), (3, .int (nI i225))] []) trivial (fun _ _ _ _ => trivial) (fun i225 b225 hi225 hf225 ih225 => ?_) (fun b225 hf225 he225 => ?_)
  · refine ro_iload_n F dX6_goesBy_225 3 rfl ?_
    refine ro_aload_n F dX6_goesBy_226 0 rfl ?_
    refine mo_gi F 2 (Nat.le_of_ble_eq_true rfl) rfl lkX6_122 rfl dX6_goesBy_227 ((congrFun (fi_lX6_goesBy_123 day np m (it (lX6_goesBy_55 m) (it (lX6_goesBy_4 day m) m np) ns) ns 2 (by decide) (by decide) (by decide) (by decide) (by decide) (by decide) (by decide)) 0).trans ((congrFun (fi_lX6_goesBy_55 m (it (lX6_goesBy_4 day m) m np) ns 2 (by decide)) 0).trans ((congrFun (fi_lX6_goesBy_4 day m m np 2 (by decide)) 0).trans (hns)))) ?_
    refine ro_icmp_geN (tgt := 248) F dX6_goesBy_230 (by decide) (by omega) (by omega) (fun c230 => absurd c230 (by omega)) (fun c230 => ?_)
    refine ro_iload_n F dX6_goesBy_233 2 rfl ?_
    refine ro_aload_n F dX6_goesBy_234 0 rfl ?_
    refine mo_gr F 19 (Nat.le_of_ble_eq_true rfl) (by decide) lkX6_47 rfl dX6_goesBy_235 ?_
    refine ro_iload_n F dX6_goesBy_238 3 rfl ?_
    refine mo_ldN F 19 8 rfl (by decide) (by decide) rfl (by omega) dX6_goesBy_239 rfl ?_
    refine ro_iadd F dX6_goesBy_240 ?_
    refine ro_istore_n (lv' := [(0, .ref (mx_ad X 40)), (1, .int (nI day)), (2, .int (b225 + ((it (lX6_goesBy_123 day np m) (it (lX6_goesBy_55 m) (it (lX6_goesBy_4 day m) m np) ns) ns) 19 i225))), (3, .int (nI i225))]) F dX6_goesBy_241 (Nat.le_of_ble_eq_true rfl) [1, 2, 0, 3] rfl ?_
    refine ro_iincN (z := 1) (lv' := [(0, .ref (mx_ad X 40)), (1, .int (nI day)), (2, .int (b225 + ((it (lX6_goesBy_123 day np m) (it (lX6_goesBy_55 m) (it (lX6_goesBy_4 day m) m np) ns) ns) 19 i225))), (3, .int (nI (i225 + 1)))]) F dX6_goesBy_242 3 rfl (Nat.le_of_ble_eq_true rfl) [1, 2, 3, 0] rfl ?_
    refine ro_goto (tgt := 225) F dX6_goesBy_245 (by decide) ?_
    exact ih225
  subst he225
  refine ro_iload_n F dX6_goesBy_225 3 rfl ?_
  refine ro_aload_n F dX6_goesBy_226 0 rfl ?_
  refine mo_gi F 2 (Nat.le_of_ble_eq_true rfl) rfl lkX6_122 rfl dX6_goesBy_227 ((congrFun (fi_lX6_goesBy_123 day np m (it (lX6_goesBy_55 m) (it (lX6_goesBy_4 day m) m np) ns) ns 2 (by decide) (by decide) (by decide) (by decide) (by decide) (by decide) (by decide)) 0).trans ((congrFun (fi_lX6_goesBy_55 m (it (lX6_goesBy_4 day m) m np) ns 2 (by decide)) 0).trans ((congrFun (fi_lX6_goesBy_4 day m m np 2 (by decide)) 0).trans (hns)))) ?_
  refine ro_icmp_geN (tgt := 248) F dX6_goesBy_230 (by decide) (by omega) (by omega) (fun c230 => ?_) (fun c230 => absurd c230 (by omega))
  refine ro_iconst (v := (nI 0)) F dX6_goesBy_248 (by decide) ?_
  refine ro_istore_n (lv' := [(0, .ref (mx_ad X 40)), (1, .int (nI day)), (2, .int (it (lX6_goesBy_225 day np ns m) (nI 0) ns)), (3, .int (nI 0))]) F dX6_goesBy_249 (Nat.le_of_ble_eq_true rfl) [1, 2, 3, 0] rfl ?_
  refine it_loop np (lX6_goesBy_250 day np ns m) (it (lX6_goesBy_123 day np m) (it (lX6_goesBy_55 m) (it (lX6_goesBy_4 day m) m np) ns) ns) (fun (_ : Nat) (b250 : Mem) => ∀ f : Nat, f ≠ 24 → b250 f = (it (lX6_goesBy_123 day np m) (it (lX6_goesBy_55 m) (it (lX6_goesBy_4 day m) m np) ns) ns) f) (fun (i250 : Nat) (b250 : Mem) => Wd (PicM X) g 4 b250 0 0 250 [(0, .ref (mx_ad X 40)), (1, .int (nI day)), (2, .int (it (lX6_goesBy_225 day np ns m) (nI 0) ns)), (3, .int (nI i250))] []) (fun f _ => rfl) (fun i_ b_ _ hb f h24 => (fr_lX6_goesBy_250 day np ns m i_ b_ f h24).trans (hb f h24)) (fun i250 b250 hi250 hf250 ih250 => ?_) (fun b250 hf250 he250 => ?_)
  · refine ro_iload_n F dX6_goesBy_250 3 rfl ?_
    refine ro_aload_n F dX6_goesBy_251 0 rfl ?_
    refine mo_gi F 6 (Nat.le_of_ble_eq_true rfl) rfl lkX6_125 rfl dX6_goesBy_252 ((congrFun (hf250 6 (by decide)) 0).trans ((congrFun (fi_lX6_goesBy_123 day np m (it (lX6_goesBy_55 m) (it (lX6_goesBy_4 day m) m np) ns) ns 6 (by decide) (by decide) (by decide) (by decide) (by decide) (by decide) (by decide)) 0).trans ((congrFun (fi_lX6_goesBy_55 m (it (lX6_goesBy_4 day m) m np) ns 6 (by decide)) 0).trans ((congrFun (fi_lX6_goesBy_4 day m m np 6 (by decide)) 0).trans (hnp))))) ?_
    refine ro_icmp_geN (tgt := 281) F dX6_goesBy_255 (by decide) (by omega) (by omega) (fun c255 => absurd c255 (by omega)) (fun c255 => ?_)
    refine ro_aload_n F dX6_goesBy_258 0 rfl ?_
    refine mo_gr F 24 (Nat.le_of_ble_eq_true rfl) (by decide) lkX6_62 rfl dX6_goesBy_259 ?_
    refine ro_bipush (v := (nI 20)) F dX6_goesBy_262 (by decide) ?_
    refine ro_iload_n F dX6_goesBy_264 3 rfl ?_
    refine ro_imulN F dX6_goesBy_265 ?_
    refine ro_iload_n F dX6_goesBy_266 1 rfl ?_
    refine ro_iaddN F dX6_goesBy_267 ?_
    refine ro_aload_n F dX6_goesBy_268 0 rfl ?_
    refine mo_gr F 23 (Nat.le_of_ble_eq_true rfl) (by decide) lkX6_59 rfl dX6_goesBy_269 ?_
    refine ro_iload_n F dX6_goesBy_272 3 rfl ?_
    refine mo_ldN F 23 9 rfl (by decide) (by decide) rfl (by omega) dX6_goesBy_273 (congrFun (hf250 23 (by decide)) i250) ?_
    refine mo_stN F hA 24 180 rfl (by decide) (by decide) rfl (by omega) dX6_goesBy_274 ?_
    refine ro_iincN (z := 1) (lv' := [(0, .ref (mx_ad X 40)), (1, .int (nI day)), (2, .int (it (lX6_goesBy_225 day np ns m) (nI 0) ns)), (3, .int (nI (i250 + 1)))]) F dX6_goesBy_275 3 rfl (Nat.le_of_ble_eq_true rfl) [1, 2, 3, 0] rfl ?_
    refine ro_goto (tgt := 250) F dX6_goesBy_278 (by decide) ?_
    exact ih250
  subst he250
  refine ro_iload_n F dX6_goesBy_250 3 rfl ?_
  refine ro_aload_n F dX6_goesBy_251 0 rfl ?_
  refine mo_gi F 6 (Nat.le_of_ble_eq_true rfl) rfl lkX6_125 rfl dX6_goesBy_252 ((congrFun (fi_lX6_goesBy_250 day np ns m (it (lX6_goesBy_123 day np m) (it (lX6_goesBy_55 m) (it (lX6_goesBy_4 day m) m np) ns) ns) np 6 (by decide)) 0).trans ((congrFun (fi_lX6_goesBy_123 day np m (it (lX6_goesBy_55 m) (it (lX6_goesBy_4 day m) m np) ns) ns 6 (by decide) (by decide) (by decide) (by decide) (by decide) (by decide) (by decide)) 0).trans ((congrFun (fi_lX6_goesBy_55 m (it (lX6_goesBy_4 day m) m np) ns 6 (by decide)) 0).trans ((congrFun (fi_lX6_goesBy_4 day m m np 6 (by decide)) 0).trans (hnp))))) ?_
  refine ro_icmp_geN (tgt := 281) F dX6_goesBy_255 (by decide) (by omega) (by omega) (fun c255 => ?_) (fun c255 => absurd c255 (by omega))
  refine ro_aload_n F dX6_goesBy_281 0 rfl ?_
  refine ro_aload_n F dX6_goesBy_282 0 rfl ?_
  refine mo_gi F 25 (Nat.le_of_ble_eq_true rfl) rfl lkX6_191 rfl dX6_goesBy_283 ((congrFun (fi_lX6_goesBy_250 day np ns m (it (lX6_goesBy_123 day np m) (it (lX6_goesBy_55 m) (it (lX6_goesBy_4 day m) m np) ns) ns) np 25 (by decide)) 0).trans ((congrFun (fi_lX6_goesBy_123 day np m (it (lX6_goesBy_55 m) (it (lX6_goesBy_4 day m) m np) ns) ns 25 (by decide) (by decide) (by decide) (by decide) (by decide) (by decide) (by decide)) 0).trans ((congrFun (fi_lX6_goesBy_55 m (it (lX6_goesBy_4 day m) m np) ns 25 (by decide)) 0).trans (congrFun (fi_lX6_goesBy_4 day m m np 25 (by decide)) 0)))) ?_
  refine ro_iconst (v := (-1)) F dX6_goesBy_286 (by decide) ?_
  have J314_287 : Wd (PicM X) g 4 (it (lX6_goesBy_250 day np ns m) (it (lX6_goesBy_123 day np m) (it (lX6_goesBy_55 m) (it (lX6_goesBy_4 day m) m np) ns) ns) np) 0 0 314 [] [.int (if (m 25 0) = (-1) then (if (it (lX6_goesBy_225 day np ns m) (nI 0) ns) ≤ (m 10 0) then (m 25 0) else (if 19 ≤ day then (m 25 0) else (nI (day + 1)))) else (m 25 0)), .ref (mx_ad X 40)] := by
    refine mo_put F hA 25 (Nat.le_of_ble_eq_true rfl) rfl rfl rfl lkX6_191 rfl dX6_goesBy_314 ?_
    exact hret _ _ _ _ _ (Nat.le_refl _) (Nat.le_refl _) dX6_goesBy_317 ⟨rfl, rfl⟩
  refine ro_icmp_ne (tgt := 310) F dX6_goesBy_287 (by decide) (fun c287 => ?_) (fun c287 => ?_)
  · refine ro_aload_n F dX6_goesBy_310 0 rfl ?_
    refine mo_gi F 25 (Nat.le_of_ble_eq_true rfl) rfl lkX6_191 rfl dX6_goesBy_311 ((congrFun (fi_lX6_goesBy_250 day np ns m (it (lX6_goesBy_123 day np m) (it (lX6_goesBy_55 m) (it (lX6_goesBy_4 day m) m np) ns) ns) np 25 (by decide)) 0).trans ((congrFun (fi_lX6_goesBy_123 day np m (it (lX6_goesBy_55 m) (it (lX6_goesBy_4 day m) m np) ns) ns 25 (by decide) (by decide) (by decide) (by decide) (by decide) (by decide) (by decide)) 0).trans ((congrFun (fi_lX6_goesBy_55 m (it (lX6_goesBy_4 day m) m np) ns 25 (by decide)) 0).trans (congrFun (fi_lX6_goesBy_4 day m m np 25 (by decide)) 0)))) ?_
    exact Wd.sub (lv' := []) [] rfl <| Wd.to J314_287 rfl rfl (congrArg (fun z => ([Value.int z, .ref (mx_ad X 40)] : List Value)) (by simp only [if_neg c287]))
  · refine ro_iload_n F dX6_goesBy_290 2 rfl ?_
    refine ro_aload_n F dX6_goesBy_291 0 rfl ?_
    refine mo_gi F 10 (Nat.le_of_ble_eq_true rfl) rfl lkX6_99 rfl dX6_goesBy_292 ((congrFun (fi_lX6_goesBy_250 day np ns m (it (lX6_goesBy_123 day np m) (it (lX6_goesBy_55 m) (it (lX6_goesBy_4 day m) m np) ns) ns) np 10 (by decide)) 0).trans ((congrFun (fi_lX6_goesBy_123 day np m (it (lX6_goesBy_55 m) (it (lX6_goesBy_4 day m) m np) ns) ns 10 (by decide) (by decide) (by decide) (by decide) (by decide) (by decide) (by decide)) 0).trans ((congrFun (fi_lX6_goesBy_55 m (it (lX6_goesBy_4 day m) m np) ns 10 (by decide)) 0).trans (congrFun (fi_lX6_goesBy_4 day m m np 10 (by decide)) 0)))) ?_
    refine ro_icmp_le (tgt := 310) F dX6_goesBy_295 (by decide) (fun c295 => ?_) (fun c295 => ?_)
    · refine ro_aload_n F dX6_goesBy_310 0 rfl ?_
      refine mo_gi F 25 (Nat.le_of_ble_eq_true rfl) rfl lkX6_191 rfl dX6_goesBy_311 ((congrFun (fi_lX6_goesBy_250 day np ns m (it (lX6_goesBy_123 day np m) (it (lX6_goesBy_55 m) (it (lX6_goesBy_4 day m) m np) ns) ns) np 25 (by decide)) 0).trans ((congrFun (fi_lX6_goesBy_123 day np m (it (lX6_goesBy_55 m) (it (lX6_goesBy_4 day m) m np) ns) ns 25 (by decide) (by decide) (by decide) (by decide) (by decide) (by decide) (by decide)) 0).trans ((congrFun (fi_lX6_goesBy_55 m (it (lX6_goesBy_4 day m) m np) ns 25 (by decide)) 0).trans (congrFun (fi_lX6_goesBy_4 day m m np 25 (by decide)) 0)))) ?_
      exact Wd.sub (lv' := []) [] rfl <| Wd.to J314_287 rfl rfl (congrArg (fun z => ([Value.int z, .ref (mx_ad X 40)] : List Value)) (by simp only [if_pos c287, if_pos c295]))
    · refine ro_iload_n F dX6_goesBy_298 1 rfl ?_
      refine ro_bipush (v := (nI 19)) F dX6_goesBy_299 (by decide) ?_
      refine ro_icmp_geN (tgt := 310) F dX6_goesBy_301 (by decide) (by omega) (by omega) (fun c301 => ?_) (fun c301 => ?_)
      · refine ro_aload_n F dX6_goesBy_310 0 rfl ?_
        refine mo_gi F 25 (Nat.le_of_ble_eq_true rfl) rfl lkX6_191 rfl dX6_goesBy_311 ((congrFun (fi_lX6_goesBy_250 day np ns m (it (lX6_goesBy_123 day np m) (it (lX6_goesBy_55 m) (it (lX6_goesBy_4 day m) m np) ns) ns) np 25 (by decide)) 0).trans ((congrFun (fi_lX6_goesBy_123 day np m (it (lX6_goesBy_55 m) (it (lX6_goesBy_4 day m) m np) ns) ns 25 (by decide) (by decide) (by decide) (by decide) (by decide) (by decide) (by decide)) 0).trans ((congrFun (fi_lX6_goesBy_55 m (it (lX6_goesBy_4 day m) m np) ns 25 (by decide)) 0).trans (congrFun (fi_lX6_goesBy_4 day m m np 25 (by decide)) 0)))) ?_
        exact Wd.sub (lv' := []) [] rfl <| Wd.to J314_287 rfl rfl (congrArg (fun z => ([Value.int z, .ref (mx_ad X 40)] : List Value)) (by simp only [if_pos c287, if_neg c295, if_pos c301]))
      · refine ro_iload_n F dX6_goesBy_304 1 rfl ?_
        refine ro_iconst (v := (nI 1)) F dX6_goesBy_305 (by decide) ?_
        refine ro_iaddN F dX6_goesBy_306 ?_
        refine ro_goto (tgt := 314) F dX6_goesBy_307 (by decide) ?_
        exact Wd.sub (lv' := []) [] rfl <| Wd.to J314_287 rfl rfl (congrArg (fun z => ([Value.int z, .ref (mx_ad X 40)] : List Value)) (by simp only [if_pos c287, if_neg c295, if_neg (Nat.not_le.mpr c301)]))
noncomputable def lX6_runs_17 (i17 : Nat) (b17 : Mem) : Mem := (m2 b17 19 i17 (nI 0))
theorem fr_lX6_runs_17 (i17 : Nat) (b17 : Mem) (f : Nat) (h19 : f ≠ 19) : lX6_runs_17  i17 b17 f = b17 f := (m2_ff _ _ h19).trans (rfl)
theorem fi_lX6_runs_17 (b17 : Mem) (n_ : Nat) (f : Nat) (h19 : f ≠ 19) : (it lX6_runs_17 b17 n_) f = b17 f := it_fr (fun i_ b_ => fr_lX6_runs_17  i_ b_ f h19) n_
noncomputable def lX6_runs_38 (np : Nat) (ns : Nat) (i38 : Nat) (b38 : Mem) : Mem := (fX6_goesBy i38 np ns b38)
theorem fr_lX6_runs_38 (np : Nat) (ns : Nat) (i38 : Nat) (b38 : Mem) (f : Nat) (h19 : f ≠ 19) (h20 : f ≠ 20) (h21 : f ≠ 21) (h22 : f ≠ 22) (h23 : f ≠ 23) (h24 : f ≠ 24) (h25 : f ≠ 25) (h26 : f ≠ 26) (h27 : f ≠ 27) : lX6_runs_38 np ns i38 b38 f = b38 f := (fr_fX6_goesBy i38 np ns b38 f h19 h20 h21 h22 h23 h24 h25 h26 h27).trans (rfl)
theorem fi_lX6_runs_38 (np : Nat) (ns : Nat) (b38 : Mem) (n_ : Nat) (f : Nat) (h19 : f ≠ 19) (h20 : f ≠ 20) (h21 : f ≠ 21) (h22 : f ≠ 22) (h23 : f ≠ 23) (h24 : f ≠ 24) (h25 : f ≠ 25) (h26 : f ≠ 26) (h27 : f ≠ 27) : (it (lX6_runs_38 np ns) b38 n_) f = b38 f := it_fr (fun i_ b_ => fr_lX6_runs_38 np ns i_ b_ f h19 h20 h21 h22 h23 h24 h25 h26 h27) n_
noncomputable def fX6_runs (np : Nat) (ns : Nat) (m : Mem) : Mem := (it (lX6_runs_38 np ns) (it lX6_runs_17 (m2 (m2 (m2 m 25 0 (-1)) 26 0 (-1)) 27 0 (-1)) 8) 20)
theorem fr_fX6_runs (np : Nat) (ns : Nat) (m : Mem) (f : Nat) (h19 : f ≠ 19) (h20 : f ≠ 20) (h21 : f ≠ 21) (h22 : f ≠ 22) (h23 : f ≠ 23) (h24 : f ≠ 24) (h25 : f ≠ 25) (h26 : f ≠ 26) (h27 : f ≠ 27) : fX6_runs np ns m f = m f := (fi_lX6_runs_38 np ns (it lX6_runs_17 (m2 (m2 (m2 m 25 0 (-1)) 26 0 (-1)) 27 0 (-1)) 8) 20 f h19 h20 h21 h22 h23 h24 h25 h26 h27).trans ((fi_lX6_runs_17  (m2 (m2 (m2 m 25 0 (-1)) 26 0 (-1)) 27 0 (-1)) 8 f h19).trans ((m2_ff _ _ h27).trans ((m2_ff _ _ h26).trans ((m2_ff _ _ h25).trans (rfl)))))
set_option maxHeartbeats 4000000 in
set_option maxRecDepth 100000 in
theorem metX6_runs (l : Launch) (X : Mx) (m : Mem)  (np : Nat) (ns : Nat) (hnp : m 6 0 = nI np) (lnp : np ≤ 9) (hns : m 2 0 = nI ns) (lns : ns ≤ 8) : Cn l yX6_runs (ws_ yX6_runs cX6_runs 2 none) 3 0 0 [.ref (mx_ad X 40)] (PicM X) (KM X) (mx_A X) m (fun rv_ w_ => rv_ = none ∧ w_ = (fX6_runs np ns m)) := by
  refine cn_v (own := RX6) rfl (Nat.le_of_ble_eq_true rfl) rfl (fun g hgl hA F hret => ?_)
  refine Wd.eql (lv' := [(0, .ref (mx_ad X 40))]) rfl ?_
  refine ro_aload_n F dX6_runs_0 0 rfl ?_
  refine ro_iconst (v := (-1)) F dX6_runs_1 (by decide) ?_
  refine mo_put F hA 25 (Nat.le_of_ble_eq_true rfl) rfl rfl rfl lkX6_191 rfl dX6_runs_2 ?_
  refine ro_aload_n F dX6_runs_5 0 rfl ?_
  refine ro_iconst (v := (-1)) F dX6_runs_6 (by decide) ?_
  refine mo_put F hA 26 (Nat.le_of_ble_eq_true rfl) rfl rfl rfl lkX6_185 rfl dX6_runs_7 ?_
  refine ro_aload_n F dX6_runs_10 0 rfl ?_
  refine ro_iconst (v := (-1)) F dX6_runs_11 (by decide) ?_
  refine mo_put F hA 27 (Nat.le_of_ble_eq_true rfl) rfl rfl rfl lkX6_188 rfl dX6_runs_12 ?_
  refine ro_iconst (v := (nI 0)) F dX6_runs_15 (by decide) ?_
  refine ro_istore_n (lv' := [(0, .ref (mx_ad X 40)), (1, .int (nI 0))]) F dX6_runs_16 (Nat.le_of_ble_eq_true rfl) [1, 0] rfl ?_
  refine it_loop 8 lX6_runs_17 (m2 (m2 (m2 m 25 0 (-1)) 26 0 (-1)) 27 0 (-1)) (fun (_ : Nat) (b17 : Mem) => ∀ f : Nat, f ≠ 19 → b17 f = (m2 (m2 (m2 m 25 0 (-1)) 26 0 (-1)) 27 0 (-1)) f) (fun (i17 : Nat) (b17 : Mem) => Wd (PicM X) g 2 b17 0 0 17 [(0, .ref (mx_ad X 40)), (1, .int (nI i17))] []) (fun f _ => rfl) (fun i_ b_ _ hb f h19 => (fr_lX6_runs_17  i_ b_ f h19).trans (hb f h19)) (fun i17 b17 hi17 hf17 ih17 => ?_) (fun b17 hf17 he17 => ?_)
  · refine ro_iload_n F dX6_runs_17 1 rfl ?_
    refine ro_bipush (v := (nI 8)) F dX6_runs_18 (by decide) ?_
    refine ro_icmp_geN (tgt := 36) F dX6_runs_20 (by decide) (by omega) (by omega) (fun c20 => absurd c20 (by omega)) (fun c20 => ?_)
    refine ro_aload_n F dX6_runs_23 0 rfl ?_
    refine mo_gr F 19 (Nat.le_of_ble_eq_true rfl) (by decide) lkX6_47 rfl dX6_runs_24 ?_
    refine ro_iload_n F dX6_runs_27 1 rfl ?_
    refine ro_iconst (v := (nI 0)) F dX6_runs_28 (by decide) ?_
    refine mo_stN F hA 19 8 rfl (by decide) (by decide) rfl (by omega) dX6_runs_29 ?_
    refine ro_iincN (z := 1) (lv' := [(0, .ref (mx_ad X 40)), (1, .int (nI (i17 + 1)))]) F dX6_runs_30 1 rfl (Nat.le_of_ble_eq_true rfl) [1, 0] rfl ?_
    refine ro_goto (tgt := 17) F dX6_runs_33 (by decide) ?_
    exact ih17
  subst he17
  refine ro_iload_n F dX6_runs_17 1 rfl ?_
  refine ro_bipush (v := (nI 8)) F dX6_runs_18 (by decide) ?_
  refine ro_icmp_geN (tgt := 36) F dX6_runs_20 (by decide) (by omega) (by omega) (fun c20 => ?_) (fun c20 => absurd c20 (by omega))
  refine ro_iconst (v := (nI 0)) F dX6_runs_36 (by decide) ?_
  refine ro_istore_n (lv' := [(0, .ref (mx_ad X 40)), (1, .int (nI 0))]) F dX6_runs_37 (Nat.le_of_ble_eq_true rfl) [1, 0] rfl ?_
  refine it_loop 20 (lX6_runs_38 np ns) (it lX6_runs_17 (m2 (m2 (m2 m 25 0 (-1)) 26 0 (-1)) 27 0 (-1)) 8) (fun (_ : Nat) (b38 : Mem) => ∀ f : Nat, f ≠ 19 → f ≠ 20 → f ≠ 21 → f ≠ 22 → f ≠ 23 → f ≠ 24 → f ≠ 25 → f ≠ 26 → f ≠ 27 → b38 f = (it lX6_runs_17 (m2 (m2 (m2 m 25 0 (-1)) 26 0 (-1)) 27 0 (-1)) 8) f) (fun (i38 : Nat) (b38 : Mem) => Wd (PicM X) g 2 b38 0 0 38 [(0, .ref (mx_ad X 40)), (1, .int (nI i38))] []) (fun f _ _ _ _ _ _ _ _ _ => rfl) (fun i_ b_ _ hb f h19 h20 h21 h22 h23 h24 h25 h26 h27 => (fr_lX6_runs_38 np ns i_ b_ f h19 h20 h21 h22 h23 h24 h25 h26 h27).trans (hb f h19 h20 h21 h22 h23 h24 h25 h26 h27)) (fun i38 b38 hi38 hf38 ih38 => ?_) (fun b38 hf38 he38 => ?_)
  · refine ro_iload_n F dX6_runs_38 1 rfl ?_
    refine ro_bipush (v := (nI 20)) F dX6_runs_39 (by decide) ?_
    refine ro_icmp_geN (tgt := 55) F dX6_runs_41 (by decide) (by omega) (by omega) (fun c41 => absurd c41 (by omega)) (fun c41 => ?_)
    refine ro_aload_n F dX6_runs_44 0 rfl ?_
    refine ro_iload_n F dX6_runs_45 1 rfl ?_
    refine mo_cV (rest := []) F hA (metX6_goesBy (gx_l g) X b38 i38 np ns ((congrFun (hf38 6 (by decide) (by decide) (by decide) (by decide) (by decide) (by decide) (by decide) (by decide) (by decide)) 0).trans ((congrFun (fi_lX6_runs_17  (m2 (m2 (m2 m 25 0 (-1)) 26 0 (-1)) 27 0 (-1)) 8 6 (by decide)) 0).trans ((m2_f _ _ (by decide)).trans ((m2_f _ _ (by decide)).trans ((m2_f _ _ (by decide)).trans (hnp)))))) (by omega) ((congrFun (hf38 2 (by decide) (by decide) (by decide) (by decide) (by decide) (by decide) (by decide) (by decide) (by decide)) 0).trans ((congrFun (fi_lX6_runs_17  (m2 (m2 (m2 m 25 0 (-1)) 26 0 (-1)) 27 0 (-1)) 8 2 (by decide)) 0).trans ((m2_f _ _ (by decide)).trans ((m2_f _ _ (by decide)).trans ((m2_f _ _ (by decide)).trans (hns)))))) (by omega) (by omega)) cwX6_197 hdX6_goesBy rfl (Nat.le_of_ble_eq_true rfl) (Nat.le_of_ble_eq_true rfl) (Nat.le_refl _) (Nat.le_refl _) rfl (Nat.le_of_ble_eq_true rfl) dX6_runs_46 ?_
    refine ro_iincN (z := 1) (lv' := [(0, .ref (mx_ad X 40)), (1, .int (nI (i38 + 1)))]) F dX6_runs_49 1 rfl (Nat.le_of_ble_eq_true rfl) [1, 0] rfl ?_
    refine ro_goto (tgt := 38) F dX6_runs_52 (by decide) ?_
    exact ih38
  subst he38
  refine ro_iload_n F dX6_runs_38 1 rfl ?_
  refine ro_bipush (v := (nI 20)) F dX6_runs_39 (by decide) ?_
  refine ro_icmp_geN (tgt := 55) F dX6_runs_41 (by decide) (by omega) (by omega) (fun c41 => ?_) (fun c41 => absurd c41 (by omega))
  exact hret _ _ _ _ _ (Nat.le_refl _) (Nat.le_refl _) dX6_runs_55 ⟨rfl, rfl⟩
noncomputable def lX6_noCalls_2 (i2 : Nat) (b2 : Mem) : Mem := (m2 b2 17 i2 (nI 0))
theorem fr_lX6_noCalls_2 (i2 : Nat) (b2 : Mem) (f : Nat) (h17 : f ≠ 17) : lX6_noCalls_2  i2 b2 f = b2 f := (m2_ff _ _ h17).trans (rfl)
theorem fi_lX6_noCalls_2 (b2 : Mem) (n_ : Nat) (f : Nat) (h17 : f ≠ 17) : (it lX6_noCalls_2 b2 n_) f = b2 f := it_fr (fun i_ b_ => fr_lX6_noCalls_2  i_ b_ f h17) n_
noncomputable def fX6_noCalls (m : Mem) : Mem := (it lX6_noCalls_2 m 160)
theorem fr_fX6_noCalls (m : Mem) (f : Nat) (h17 : f ≠ 17) : fX6_noCalls m f = m f := (fi_lX6_noCalls_2  m 160 f h17).trans (rfl)
set_option maxHeartbeats 4000000 in
set_option maxRecDepth 100000 in
theorem metX6_noCalls (l : Launch) (X : Mx) (m : Mem)    : Cn l yX6_noCalls (ws_ yX6_noCalls cX6_noCalls 2 none) 1 0 0 [.ref (mx_ad X 40)] (PicM X) (KM X) (mx_A X) m (fun rv_ w_ => rv_ = none ∧ w_ = (fX6_noCalls m)) := by
  refine cn_v (own := RX6) rfl (Nat.le_of_ble_eq_true rfl) rfl (fun g hgl hA F hret => ?_)
  refine Wd.eql (lv' := [(0, .ref (mx_ad X 40))]) rfl ?_
  refine ro_iconst (v := (nI 0)) F dX6_noCalls_0 (by decide) ?_
  refine ro_istore_n (lv' := [(0, .ref (mx_ad X 40)), (1, .int (nI 0))]) F dX6_noCalls_1 (Nat.le_of_ble_eq_true rfl) [1, 0] rfl ?_
  refine it_loop 160 lX6_noCalls_2 m (fun (_ : Nat) (b2 : Mem) => ∀ f : Nat, f ≠ 17 → b2 f = m f) (fun (i2 : Nat) (b2 : Mem) => Wd (PicM X) g 2 b2 0 0 2 [(0, .ref (mx_ad X 40)), (1, .int (nI i2))] []) (fun f _ => rfl) (fun i_ b_ _ hb f h17 => (fr_lX6_noCalls_2  i_ b_ f h17).trans (hb f h17)) (fun i2 b2 hi2 hf2 ih2 => ?_) (fun b2 hf2 he2 => ?_)
  · refine ro_iload_n F dX6_noCalls_2 1 rfl ?_
    refine ro_sipush (v := (nI 160)) F dX6_noCalls_3 (by decide) ?_
    refine ro_icmp_geN (tgt := 22) F dX6_noCalls_6 (by decide) (by omega) (by omega) (fun c6 => absurd c6 (by omega)) (fun c6 => ?_)
    refine ro_aload_n F dX6_noCalls_9 0 rfl ?_
    refine mo_gr F 17 (Nat.le_of_ble_eq_true rfl) (by decide) lkX6_40 rfl dX6_noCalls_10 ?_
    refine ro_iload_n F dX6_noCalls_13 1 rfl ?_
    refine ro_iconst (v := (nI 0)) F dX6_noCalls_14 (by decide) ?_
    refine mo_stZ F hA 17 160 rfl (by decide) (by decide) rfl (by omega) (by decide) dX6_noCalls_15 ?_
    refine ro_iincN (z := 1) (lv' := [(0, .ref (mx_ad X 40)), (1, .int (nI (i2 + 1)))]) F dX6_noCalls_16 1 rfl (Nat.le_of_ble_eq_true rfl) [1, 0] rfl ?_
    refine ro_goto (tgt := 2) F dX6_noCalls_19 (by decide) ?_
    exact ih2
  subst he2
  refine ro_iload_n F dX6_noCalls_2 1 rfl ?_
  refine ro_sipush (v := (nI 160)) F dX6_noCalls_3 (by decide) ?_
  refine ro_icmp_geN (tgt := 22) F dX6_noCalls_6 (by decide) (by omega) (by omega) (fun c6 => ?_) (fun c6 => absurd c6 (by omega))
  exact hret _ _ _ _ _ (Nat.le_refl _) (Nat.le_refl _) dX6_noCalls_22 ⟨rfl, rfl⟩
noncomputable def lX6_lays_6 (i6 : Nat) (b6 : Mem) : Mem := (m2 b6 18 i6 (nI 0))
theorem fr_lX6_lays_6 (i6 : Nat) (b6 : Mem) (f : Nat) (h18 : f ≠ 18) : lX6_lays_6  i6 b6 f = b6 f := (m2_ff _ _ h18).trans (rfl)
theorem fi_lX6_lays_6 (b6 : Mem) (n_ : Nat) (f : Nat) (h18 : f ≠ 18) : (it lX6_lays_6 b6 n_) f = b6 f := it_fr (fun i_ b_ => fr_lX6_lays_6  i_ b_ f h18) n_
noncomputable def lX6_lays_27 (notCalls : Int32) (cd : Nat → Nat) (cs : Nat → Nat) (i27 : Nat) (b27 : Mem) : Mem := (m2 b27 17 ((20 * (cs i27)) + (cd i27)) (b2 (¬ ((b27 17 ((20 * (cs i27)) + (cd i27))) = 0) ∨ (¬ (((notCalls >>> ((nI i27) &&& 31)) &&& (nI 1)) = (nI 1))))))
theorem fr_lX6_lays_27 (notCalls : Int32) (cd : Nat → Nat) (cs : Nat → Nat) (i27 : Nat) (b27 : Mem) (f : Nat) (h17 : f ≠ 17) : lX6_lays_27 notCalls cd cs i27 b27 f = b27 f := (m2_ff _ _ h17).trans (rfl)
theorem fi_lX6_lays_27 (notCalls : Int32) (cd : Nat → Nat) (cs : Nat → Nat) (b27 : Mem) (n_ : Nat) (f : Nat) (h17 : f ≠ 17) : (it (lX6_lays_27 notCalls cd cs) b27 n_) f = b27 f := it_fr (fun i_ b_ => fr_lX6_lays_27 notCalls cd cs i_ b_ f h17) n_
noncomputable def lX6_lays_91 (notWars : Int32) (wd : Nat → Nat) (i91 : Nat) (b91 : Mem) : Mem := (m2 b91 18 (wd i91) (b2 (¬ ((b91 18 (wd i91)) = 0) ∨ (¬ (((notWars >>> ((nI i91) &&& 31)) &&& (nI 1)) = (nI 1))))))
theorem fr_lX6_lays_91 (notWars : Int32) (wd : Nat → Nat) (i91 : Nat) (b91 : Mem) (f : Nat) (h18 : f ≠ 18) : lX6_lays_91 notWars wd i91 b91 f = b91 f := (m2_ff _ _ h18).trans (rfl)
theorem fi_lX6_lays_91 (notWars : Int32) (wd : Nat → Nat) (b91 : Mem) (n_ : Nat) (f : Nat) (h18 : f ≠ 18) : (it (lX6_lays_91 notWars wd) b91 n_) f = b91 f := it_fr (fun i_ b_ => fr_lX6_lays_91 notWars wd i_ b_ f h18) n_
noncomputable def fX6_lays (notCalls : Int32) (notWars : Int32) (nc : Nat) (nw : Nat) (cd : Nat → Nat) (cs : Nat → Nat) (wd : Nat → Nat) (m : Mem) : Mem := (it (lX6_lays_91 notWars wd) (it (lX6_lays_27 notCalls cd cs) (it lX6_lays_6 (fX6_noCalls m) 20) nc) nw)
theorem fr_fX6_lays (notCalls : Int32) (notWars : Int32) (nc : Nat) (nw : Nat) (cd : Nat → Nat) (cs : Nat → Nat) (wd : Nat → Nat) (m : Mem) (f : Nat) (h17 : f ≠ 17) (h18 : f ≠ 18) : fX6_lays notCalls notWars nc nw cd cs wd m f = m f := (fi_lX6_lays_91 notWars wd (it (lX6_lays_27 notCalls cd cs) (it lX6_lays_6 (fX6_noCalls m) 20) nc) nw f h18).trans ((fi_lX6_lays_27 notCalls cd cs (it lX6_lays_6 (fX6_noCalls m) 20) nc f h17).trans ((fi_lX6_lays_6  (fX6_noCalls m) 20 f h18).trans ((fr_fX6_noCalls  m f h17).trans (rfl))))
set_option maxHeartbeats 4000000 in
set_option maxRecDepth 100000 in
theorem metX6_lays (l : Launch) (X : Mx) (m : Mem) (notCalls : Int32) (notWars : Int32) (nc : Nat) (nw : Nat) (cd : Nat → Nat) (cs : Nat → Nat) (wd : Nat → Nat) (hnc : m 11 0 = nI nc) (lnc : nc ≤ 8) (hnw : m 14 0 = nI nw) (lnw : nw ≤ 6) (hcd : ∀ j, j < nc → m 12 j = nI (cd j)) (lcd : ∀ j, j < nc → cd j < 20) (hcs : ∀ j, j < nc → m 13 j = nI (cs j)) (lcs : ∀ j, j < nc → cs j < 8) (hwd : ∀ j, j < nw → m 15 j = nI (wd j)) (lwd : ∀ j, j < nw → wd j < 20) : Cn l yX6_lays (ws_ yX6_lays cX6_lays 5 none) 2 0 0 [.ref (mx_ad X 40), .int notCalls, .int notWars] (PicM X) (KM X) (mx_A X) m (fun rv_ w_ => rv_ = none ∧ w_ = (fX6_lays notCalls notWars nc nw cd cs wd m)) := by
  refine cn_v (own := RX6) rfl (Nat.le_of_ble_eq_true rfl) rfl (fun g hgl hA F hret => ?_)
  refine Wd.eql (lv' := [(0, .ref (mx_ad X 40)), (1, .int notCalls), (2, .int notWars)]) rfl ?_
  refine ro_aload_n F dX6_lays_0 0 rfl ?_
  refine mo_cV (rest := []) F hA (metX6_noCalls (gx_l g) X m  ) cwX6_171 hdX6_noCalls rfl (Nat.le_of_ble_eq_true rfl) (Nat.le_of_ble_eq_true rfl) (Nat.le_refl _) (Nat.le_refl _) rfl (Nat.le_of_ble_eq_true rfl) dX6_lays_1 ?_
  refine ro_iconst (v := (nI 0)) F dX6_lays_4 (by decide) ?_
  refine ro_istore_n (lv' := [(0, .ref (mx_ad X 40)), (1, .int notCalls), (2, .int notWars), (3, .int (nI 0))]) F dX6_lays_5 (Nat.le_of_ble_eq_true rfl) [1, 2, 3, 0] rfl ?_
  refine it_loop 20 lX6_lays_6 (fX6_noCalls m) (fun (_ : Nat) (b6 : Mem) => ∀ f : Nat, f ≠ 18 → b6 f = (fX6_noCalls m) f) (fun (i6 : Nat) (b6 : Mem) => Wd (PicM X) g 5 b6 0 0 6 [(0, .ref (mx_ad X 40)), (1, .int notCalls), (2, .int notWars), (3, .int (nI i6))] []) (fun f _ => rfl) (fun i_ b_ _ hb f h18 => (fr_lX6_lays_6  i_ b_ f h18).trans (hb f h18)) (fun i6 b6 hi6 hf6 ih6 => ?_) (fun b6 hf6 he6 => ?_)
  · refine ro_iload_n F dX6_lays_6 3 rfl ?_
    refine ro_bipush (v := (nI 20)) F dX6_lays_7 (by decide) ?_
    refine ro_icmp_geN (tgt := 25) F dX6_lays_9 (by decide) (by omega) (by omega) (fun c9 => absurd c9 (by omega)) (fun c9 => ?_)
    refine ro_aload_n F dX6_lays_12 0 rfl ?_
    refine mo_gr F 18 (Nat.le_of_ble_eq_true rfl) (by decide) lkX6_44 rfl dX6_lays_13 ?_
    refine ro_iload_n F dX6_lays_16 3 rfl ?_
    refine ro_iconst (v := (nI 0)) F dX6_lays_17 (by decide) ?_
    refine mo_stZ F hA 18 20 rfl (by decide) (by decide) rfl (by omega) (by decide) dX6_lays_18 ?_
    refine ro_iincN (z := 1) (lv' := [(0, .ref (mx_ad X 40)), (1, .int notCalls), (2, .int notWars), (3, .int (nI (i6 + 1)))]) F dX6_lays_19 3 rfl (Nat.le_of_ble_eq_true rfl) [1, 2, 3, 0] rfl ?_
    refine ro_goto (tgt := 6) F dX6_lays_22 (by decide) ?_
    exact ih6
  subst he6
  refine ro_iload_n F dX6_lays_6 3 rfl ?_
  refine ro_bipush (v := (nI 20)) F dX6_lays_7 (by decide) ?_
  refine ro_icmp_geN (tgt := 25) F dX6_lays_9 (by decide) (by omega) (by omega) (fun c9 => ?_) (fun c9 => absurd c9 (by omega))
  refine ro_iconst (v := (nI 0)) F dX6_lays_25 (by decide) ?_
  refine ro_istore_n (lv' := [(0, .ref (mx_ad X 40)), (1, .int notCalls), (2, .int notWars), (3, .int (nI 0))]) F dX6_lays_26 (Nat.le_of_ble_eq_true rfl) [1, 2, 3, 0] rfl ?_
  refine it_loop nc (lX6_lays_27 notCalls cd cs) (it lX6_lays_6 (fX6_noCalls m) 20) (fun (_ : Nat) (b27 : Mem) => ∀ f : Nat, f ≠ 17 → b27 f = (it lX6_lays_6 (fX6_noCalls m) 20) f) (fun (i27 : Nat) (b27 : Mem) => Wd (PicM X) g 5 b27 0 0 27 [(0, .ref (mx_ad X 40)), (1, .int notCalls), (2, .int notWars), (3, .int (nI i27))] []) (fun f _ => rfl) (fun i_ b_ _ hb f h17 => (fr_lX6_lays_27 notCalls cd cs i_ b_ f h17).trans (hb f h17)) (fun i27 b27 hi27 hf27 ih27 => ?_) (fun b27 hf27 he27 => ?_)
  · refine ro_iload_n F dX6_lays_27 3 rfl ?_
    refine ro_aload_n F dX6_lays_28 0 rfl ?_
    refine mo_gi F 11 (Nat.le_of_ble_eq_true rfl) rfl lkX6_156 rfl dX6_lays_29 ((congrFun (hf27 11 (by decide)) 0).trans ((congrFun (fi_lX6_lays_6  (fX6_noCalls m) 20 11 (by decide)) 0).trans ((congrFun (fr_fX6_noCalls  m 11 (by decide)) 0).trans (hnc)))) ?_
    refine ro_icmp_geN (tgt := 89) F dX6_lays_32 (by decide) (by omega) (by omega) (fun c32 => absurd c32 (by omega)) (fun c32 => ?_)
    refine ro_bipush (v := (nI 20)) F dX6_lays_35 (by decide) ?_
    refine ro_aload_n F dX6_lays_37 0 rfl ?_
    refine mo_gr F 13 (Nat.le_of_ble_eq_true rfl) (by decide) lkX6_34 rfl dX6_lays_38 ?_
    refine ro_iload_n F dX6_lays_41 3 rfl ?_
    have hz := lcs i27 (by omega)
    refine mo_ldN F 13 8 rfl (by decide) (by decide) rfl (by omega) dX6_lays_42 ((congrFun (hf27 13 (by decide)) i27).trans ((congrFun (fi_lX6_lays_6  (fX6_noCalls m) 20 13 (by decide)) i27).trans ((congrFun (fr_fX6_noCalls  m 13 (by decide)) i27).trans (hcs i27 (by omega))))) ?_
    refine ro_imulN F dX6_lays_43 ?_
    refine ro_aload_n F dX6_lays_44 0 rfl ?_
    refine mo_gr F 12 (Nat.le_of_ble_eq_true rfl) (by decide) lkX6_31 rfl dX6_lays_45 ?_
    refine ro_iload_n F dX6_lays_48 3 rfl ?_
    have hz := lcd i27 (by omega)
    refine mo_ldN F 12 8 rfl (by decide) (by decide) rfl (by omega) dX6_lays_49 ((congrFun (hf27 12 (by decide)) i27).trans ((congrFun (fi_lX6_lays_6  (fX6_noCalls m) 20 12 (by decide)) i27).trans ((congrFun (fr_fX6_noCalls  m 12 (by decide)) i27).trans (hcd i27 (by omega))))) ?_
    refine ro_iaddN F dX6_lays_50 ?_
    refine ro_istore (lv' := [(0, .ref (mx_ad X 40)), (1, .int notCalls), (2, .int notWars), (3, .int (nI i27)), (4, .int (nI ((20 * (cs i27)) + (cd i27))))]) F dX6_lays_51 (Nat.le_of_ble_eq_true rfl) [1, 2, 3, 4, 0] rfl ?_
    refine ro_aload_n F dX6_lays_53 0 rfl ?_
    refine mo_gr F 17 (Nat.le_of_ble_eq_true rfl) (by decide) lkX6_40 rfl dX6_lays_54 ?_
    refine ro_iload F dX6_lays_57 4 rfl ?_
    refine ro_aload_n F dX6_lays_59 0 rfl ?_
    refine mo_gr F 17 (Nat.le_of_ble_eq_true rfl) (by decide) lkX6_40 rfl dX6_lays_60 ?_
    refine ro_iload F dX6_lays_63 4 rfl ?_
    refine mo_ldZ F 17 160 rfl (by decide) (by decide) rfl (by omega) dX6_lays_65 rfl ?_
    have J82_66 : Wd (PicM X) g 5 b27 0 0 82 [(0, .ref (mx_ad X 40)), (1, .int notCalls), (2, .int notWars), (3, .int (nI i27))] [.int (b2 (¬ ((b27 17 ((20 * (cs i27)) + (cd i27))) = 0) ∨ (¬ (((notCalls >>> ((nI i27) &&& 31)) &&& (nI 1)) = (nI 1))))), .int (nI ((20 * (cs i27)) + (cd i27))), .ref (mx_ad X 17)] := by
      refine mo_stZ F hA 17 160 rfl (by decide) (by decide) rfl (by omega) b2_vnar dX6_lays_82 ?_
      refine ro_iincN (z := 1) (lv' := [(0, .ref (mx_ad X 40)), (1, .int notCalls), (2, .int notWars), (3, .int (nI (i27 + 1)))]) F dX6_lays_83 3 rfl (Nat.le_of_ble_eq_true rfl) [1, 2, 3, 0] rfl ?_
      refine ro_goto (tgt := 27) F dX6_lays_86 (by decide) ?_
      exact ih27
    refine ro_if_ne (tgt := 77) F dX6_lays_66 (by decide) (fun c66 => ?_) (fun c66 => ?_)
    · refine ro_iconst (v := (nI 1)) F dX6_lays_77 (by decide) ?_
      refine ro_goto (tgt := 82) F dX6_lays_78 (by decide) ?_
      exact Wd.sub (lv' := [(0, .ref (mx_ad X 40)), (1, .int notCalls), (2, .int notWars), (3, .int (nI i27))]) [0, 1, 2, 3] rfl <| Wd.to J82_66 rfl rfl (congrArg (fun z => ([Value.int z, .int (nI ((20 * (cs i27)) + (cd i27))), .ref (mx_ad X 17)] : List Value)) ((b2_t (by simp [c66])).symm))
    · refine ro_iload_n F dX6_lays_69 1 rfl ?_
      refine ro_iload_n F dX6_lays_70 3 rfl ?_
      refine mo_cS (rest := [.int (nI ((20 * (cs i27)) + (cd i27))), .ref (mx_ad X 17)]) F hA (metX6_isIn (gx_l g) X b27 notCalls (nI i27) ) cwX6_174 hdX6_isIn rfl (Nat.le_of_ble_eq_true rfl) (Nat.le_of_ble_eq_true rfl) (Nat.le_refl _) (Nat.le_refl _) rfl (Nat.le_of_ble_eq_true rfl) dX6_lays_71 ?_
      refine ro_if_neB (tgt := 81) F dX6_lays_74 (by decide) (fun c74 => ?_) (fun c74 => ?_)
      · refine ro_iconst (v := (nI 0)) F dX6_lays_81 (by decide) ?_
        exact Wd.sub (lv' := [(0, .ref (mx_ad X 40)), (1, .int notCalls), (2, .int notWars), (3, .int (nI i27))]) [0, 1, 2, 3] rfl <| Wd.to J82_66 rfl rfl (congrArg (fun z => ([Value.int z, .int (nI ((20 * (cs i27)) + (cd i27))), .ref (mx_ad X 17)] : List Value)) ((b2_f (by simp [c66, c74])).symm))
      · refine ro_iconst (v := (nI 1)) F dX6_lays_77 (by decide) ?_
        refine ro_goto (tgt := 82) F dX6_lays_78 (by decide) ?_
        exact Wd.sub (lv' := [(0, .ref (mx_ad X 40)), (1, .int notCalls), (2, .int notWars), (3, .int (nI i27))]) [0, 1, 2, 3] rfl <| Wd.to J82_66 rfl rfl (congrArg (fun z => ([Value.int z, .int (nI ((20 * (cs i27)) + (cd i27))), .ref (mx_ad X 17)] : List Value)) ((b2_t (by simp [c66, c74])).symm))
  subst he27
  refine ro_iload_n F dX6_lays_27 3 rfl ?_
  refine ro_aload_n F dX6_lays_28 0 rfl ?_
  refine mo_gi F 11 (Nat.le_of_ble_eq_true rfl) rfl lkX6_156 rfl dX6_lays_29 ((congrFun (fi_lX6_lays_27 notCalls cd cs (it lX6_lays_6 (fX6_noCalls m) 20) nc 11 (by decide)) 0).trans ((congrFun (fi_lX6_lays_6  (fX6_noCalls m) 20 11 (by decide)) 0).trans ((congrFun (fr_fX6_noCalls  m 11 (by decide)) 0).trans (hnc)))) ?_
  refine ro_icmp_geN (tgt := 89) F dX6_lays_32 (by decide) (by omega) (by omega) (fun c32 => ?_) (fun c32 => absurd c32 (by omega))
  refine ro_iconst (v := (nI 0)) F dX6_lays_89 (by decide) ?_
  refine ro_istore_n (lv' := [(0, .ref (mx_ad X 40)), (1, .int notCalls), (2, .int notWars), (3, .int (nI 0))]) F dX6_lays_90 (Nat.le_of_ble_eq_true rfl) [1, 2, 3, 0] rfl ?_
  refine Wd.sub (lv' := [(0, .ref (mx_ad X 40)), (2, .int notWars), (3, .int (nI 0))]) [0, 2, 3] rfl ?_
  refine it_loop nw (lX6_lays_91 notWars wd) (it (lX6_lays_27 notCalls cd cs) (it lX6_lays_6 (fX6_noCalls m) 20) nc) (fun (_ : Nat) (b91 : Mem) => ∀ f : Nat, f ≠ 18 → b91 f = (it (lX6_lays_27 notCalls cd cs) (it lX6_lays_6 (fX6_noCalls m) 20) nc) f) (fun (i91 : Nat) (b91 : Mem) => Wd (PicM X) g 5 b91 0 0 91 [(0, .ref (mx_ad X 40)), (2, .int notWars), (3, .int (nI i91))] []) (fun f _ => rfl) (fun i_ b_ _ hb f h18 => (fr_lX6_lays_91 notWars wd i_ b_ f h18).trans (hb f h18)) (fun i91 b91 hi91 hf91 ih91 => ?_) (fun b91 hf91 he91 => ?_)
  · refine ro_iload_n F dX6_lays_91 2 rfl ?_
    refine ro_aload_n F dX6_lays_92 0 rfl ?_
    refine mo_gi F 14 (Nat.le_of_ble_eq_true rfl) rfl lkX6_159 rfl dX6_lays_93 ((congrFun (hf91 14 (by decide)) 0).trans ((congrFun (fi_lX6_lays_27 notCalls cd cs (it lX6_lays_6 (fX6_noCalls m) 20) nc 14 (by decide)) 0).trans ((congrFun (fi_lX6_lays_6  (fX6_noCalls m) 20 14 (by decide)) 0).trans ((congrFun (fr_fX6_noCalls  m 14 (by decide)) 0).trans (hnw))))) ?_
    refine ro_icmp_geN (tgt := 143) F dX6_lays_96 (by decide) (by omega) (by omega) (fun c96 => absurd c96 (by omega)) (fun c96 => ?_)
    refine ro_aload_n F dX6_lays_99 0 rfl ?_
    refine mo_gr F 18 (Nat.le_of_ble_eq_true rfl) (by decide) lkX6_44 rfl dX6_lays_100 ?_
    refine ro_aload_n F dX6_lays_103 0 rfl ?_
    refine mo_gr F 15 (Nat.le_of_ble_eq_true rfl) (by decide) lkX6_37 rfl dX6_lays_104 ?_
    refine ro_iload_n F dX6_lays_107 2 rfl ?_
    have hz := lwd i91 (by omega)
    refine mo_ldN F 15 6 rfl (by decide) (by decide) rfl (by omega) dX6_lays_108 ((congrFun (hf91 15 (by decide)) i91).trans ((congrFun (fi_lX6_lays_27 notCalls cd cs (it lX6_lays_6 (fX6_noCalls m) 20) nc 15 (by decide)) i91).trans ((congrFun (fi_lX6_lays_6  (fX6_noCalls m) 20 15 (by decide)) i91).trans ((congrFun (fr_fX6_noCalls  m 15 (by decide)) i91).trans (hwd i91 (by omega)))))) ?_
    refine ro_aload_n F dX6_lays_109 0 rfl ?_
    refine mo_gr F 18 (Nat.le_of_ble_eq_true rfl) (by decide) lkX6_44 rfl dX6_lays_110 ?_
    refine ro_aload_n F dX6_lays_113 0 rfl ?_
    refine mo_gr F 15 (Nat.le_of_ble_eq_true rfl) (by decide) lkX6_37 rfl dX6_lays_114 ?_
    refine ro_iload_n F dX6_lays_117 2 rfl ?_
    have hz := lwd i91 (by omega)
    refine mo_ldN F 15 6 rfl (by decide) (by decide) rfl (by omega) dX6_lays_118 ((congrFun (hf91 15 (by decide)) i91).trans ((congrFun (fi_lX6_lays_27 notCalls cd cs (it lX6_lays_6 (fX6_noCalls m) 20) nc 15 (by decide)) i91).trans ((congrFun (fi_lX6_lays_6  (fX6_noCalls m) 20 15 (by decide)) i91).trans ((congrFun (fr_fX6_noCalls  m 15 (by decide)) i91).trans (hwd i91 (by omega)))))) ?_
    refine mo_ldZ F 18 20 rfl (by decide) (by decide) rfl (by omega) dX6_lays_119 rfl ?_
    have J136_120 : Wd (PicM X) g 5 b91 0 0 136 [(0, .ref (mx_ad X 40)), (2, .int notWars), (3, .int (nI i91))] [.int (b2 (¬ ((b91 18 (wd i91)) = 0) ∨ (¬ (((notWars >>> ((nI i91) &&& 31)) &&& (nI 1)) = (nI 1))))), .int (nI (wd i91)), .ref (mx_ad X 18)] := by
      refine mo_stZ F hA 18 20 rfl (by decide) (by decide) rfl (by omega) b2_vnar dX6_lays_136 ?_
      refine ro_iincN (z := 1) (lv' := [(0, .ref (mx_ad X 40)), (2, .int notWars), (3, .int (nI (i91 + 1)))]) F dX6_lays_137 2 rfl (Nat.le_of_ble_eq_true rfl) [1, 2, 0] rfl ?_
      refine ro_goto (tgt := 91) F dX6_lays_140 (by decide) ?_
      exact ih91
    refine ro_if_ne (tgt := 131) F dX6_lays_120 (by decide) (fun c120 => ?_) (fun c120 => ?_)
    · refine ro_iconst (v := (nI 1)) F dX6_lays_131 (by decide) ?_
      refine ro_goto (tgt := 136) F dX6_lays_132 (by decide) ?_
      exact Wd.to J136_120 rfl rfl (congrArg (fun z => ([Value.int z, .int (nI (wd i91)), .ref (mx_ad X 18)] : List Value)) ((b2_t (by simp [c120])).symm))
    · refine ro_iload_n F dX6_lays_123 1 rfl ?_
      refine ro_iload_n F dX6_lays_124 2 rfl ?_
      refine mo_cS (rest := [.int (nI (wd i91)), .ref (mx_ad X 18)]) F hA (metX6_isIn (gx_l g) X b91 notWars (nI i91) ) cwX6_174 hdX6_isIn rfl (Nat.le_of_ble_eq_true rfl) (Nat.le_of_ble_eq_true rfl) (Nat.le_refl _) (Nat.le_refl _) rfl (Nat.le_of_ble_eq_true rfl) dX6_lays_125 ?_
      refine ro_if_neB (tgt := 135) F dX6_lays_128 (by decide) (fun c128 => ?_) (fun c128 => ?_)
      · refine ro_iconst (v := (nI 0)) F dX6_lays_135 (by decide) ?_
        exact Wd.to J136_120 rfl rfl (congrArg (fun z => ([Value.int z, .int (nI (wd i91)), .ref (mx_ad X 18)] : List Value)) ((b2_f (by simp [c120, c128])).symm))
      · refine ro_iconst (v := (nI 1)) F dX6_lays_131 (by decide) ?_
        refine ro_goto (tgt := 136) F dX6_lays_132 (by decide) ?_
        exact Wd.to J136_120 rfl rfl (congrArg (fun z => ([Value.int z, .int (nI (wd i91)), .ref (mx_ad X 18)] : List Value)) ((b2_t (by simp [c120, c128])).symm))
  subst he91
  refine ro_iload_n F dX6_lays_91 2 rfl ?_
  refine ro_aload_n F dX6_lays_92 0 rfl ?_
  refine mo_gi F 14 (Nat.le_of_ble_eq_true rfl) rfl lkX6_159 rfl dX6_lays_93 ((congrFun (fi_lX6_lays_91 notWars wd (it (lX6_lays_27 notCalls cd cs) (it lX6_lays_6 (fX6_noCalls m) 20) nc) nw 14 (by decide)) 0).trans ((congrFun (fi_lX6_lays_27 notCalls cd cs (it lX6_lays_6 (fX6_noCalls m) 20) nc 14 (by decide)) 0).trans ((congrFun (fi_lX6_lays_6  (fX6_noCalls m) 20 14 (by decide)) 0).trans ((congrFun (fr_fX6_noCalls  m 14 (by decide)) 0).trans (hnw))))) ?_
  refine ro_icmp_geN (tgt := 143) F dX6_lays_96 (by decide) (by omega) (by omega) (fun c96 => ?_) (fun c96 => absurd c96 (by omega))
  exact hret _ _ _ _ _ (Nat.le_refl _) (Nat.le_refl _) dX6_lays_143 ⟨rfl, rfl⟩
noncomputable def lX6_allOwed_4 (day : Nat) (m : Mem) (i4 : Nat) (b4 : Int32) : Int32 := (b4 + (m 20 ((20 * i4) + day)))
noncomputable def rX6_allOwed (day : Nat) (ns : Nat) (m : Mem) : Int32 := (it (lX6_allOwed_4 day m) (nI 0) ns)
set_option maxHeartbeats 4000000 in
set_option maxRecDepth 100000 in
theorem metX6_allOwed (l : Launch) (X : Mx) (m : Mem) (day : Nat) (ns : Nat) (hns : m 2 0 = nI ns) (lns : ns ≤ 8) (hday : day < 20) : Cn l yX6_allOwed (ws_ yX6_allOwed cX6_allOwed 4 (some .int)) 1 0 0 [.ref (mx_ad X 40), .int (nI day)] (PicM X) (KM X) (mx_A X) m (fun rv_ w_ => rv_ = some (.int (rX6_allOwed day ns m)) ∧ w_ = m) := by
  refine cn_i (own := RX6) rfl (Nat.le_of_ble_eq_true rfl) rfl (fun g hgl hA F hret => ?_)
  refine Wd.eql (lv' := [(0, .ref (mx_ad X 40)), (1, .int (nI day))]) rfl ?_
  refine ro_iconst (v := (nI 0)) F dX6_allOwed_0 (by decide) ?_
  refine ro_istore_n (lv' := [(0, .ref (mx_ad X 40)), (1, .int (nI day)), (2, .int (nI 0))]) F dX6_allOwed_1 (Nat.le_of_ble_eq_true rfl) [1, 2, 0] rfl ?_
  refine ro_iconst (v := (nI 0)) F dX6_allOwed_2 (by decide) ?_
  refine ro_istore_n (lv' := [(0, .ref (mx_ad X 40)), (1, .int (nI day)), (2, .int (nI 0)), (3, .int (nI 0))]) F dX6_allOwed_3 (Nat.le_of_ble_eq_true rfl) [1, 2, 3, 0] rfl ?_
  refine it_loop ns (lX6_allOwed_4 day m) (nI 0) (fun _ _ => True) (fun (i4 : Nat) (b4 : Int32) => Wd (PicM X) g 4 m 0 0 4 [(0, .ref (mx_ad X 40)), (1, .int (nI day)), (2, .int b4), (3, .int (nI i4))] []) trivial (fun _ _ _ _ => trivial) (fun i4 b4 hi4 hf4 ih4 => ?_) (fun b4 hf4 he4 => ?_)
  · refine ro_iload_n F dX6_allOwed_4 3 rfl ?_
    refine ro_aload_n F dX6_allOwed_5 0 rfl ?_
    refine mo_gi F 2 (Nat.le_of_ble_eq_true rfl) rfl lkX6_122 rfl dX6_allOwed_6 hns ?_
    refine ro_icmp_geN (tgt := 32) F dX6_allOwed_9 (by decide) (by omega) (by omega) (fun c9 => absurd c9 (by omega)) (fun c9 => ?_)
    refine ro_iload_n F dX6_allOwed_12 2 rfl ?_
    refine ro_aload_n F dX6_allOwed_13 0 rfl ?_
    refine mo_gr F 20 (Nat.le_of_ble_eq_true rfl) (by decide) lkX6_50 rfl dX6_allOwed_14 ?_
    refine ro_bipush (v := (nI 20)) F dX6_allOwed_17 (by decide) ?_
    refine ro_iload_n F dX6_allOwed_19 3 rfl ?_
    refine ro_imulN F dX6_allOwed_20 ?_
    refine ro_iload_n F dX6_allOwed_21 1 rfl ?_
    refine ro_iaddN F dX6_allOwed_22 ?_
    refine mo_ldN F 20 160 rfl (by decide) (by decide) rfl (by omega) dX6_allOwed_23 rfl ?_
    refine ro_iadd F dX6_allOwed_24 ?_
    refine ro_istore_n (lv' := [(0, .ref (mx_ad X 40)), (1, .int (nI day)), (2, .int (b4 + (m 20 ((20 * i4) + day)))), (3, .int (nI i4))]) F dX6_allOwed_25 (Nat.le_of_ble_eq_true rfl) [1, 2, 0, 3] rfl ?_
    refine ro_iincN (z := 1) (lv' := [(0, .ref (mx_ad X 40)), (1, .int (nI day)), (2, .int (b4 + (m 20 ((20 * i4) + day)))), (3, .int (nI (i4 + 1)))]) F dX6_allOwed_26 3 rfl (Nat.le_of_ble_eq_true rfl) [1, 2, 3, 0] rfl ?_
    refine ro_goto (tgt := 4) F dX6_allOwed_29 (by decide) ?_
    exact ih4
  subst he4
  refine ro_iload_n F dX6_allOwed_4 3 rfl ?_
  refine ro_aload_n F dX6_allOwed_5 0 rfl ?_
  refine mo_gi F 2 (Nat.le_of_ble_eq_true rfl) rfl lkX6_122 rfl dX6_allOwed_6 hns ?_
  refine ro_icmp_geN (tgt := 32) F dX6_allOwed_9 (by decide) (by omega) (by omega) (fun c9 => ?_) (fun c9 => absurd c9 (by omega))
  refine ro_iload_n F dX6_allOwed_32 2 rfl ?_
  exact hret _ _ _ _ _ _ (Nat.le_refl _) (Nat.le_refl _) dX6_allOwed_33 rfl ⟨congrArg (fun z => some (Value.int z)) (rfl), rfl⟩
noncomputable def lX6_allHeard_4 (k : Nat) (m : Mem) (i4 : Nat) (b4 : Int32) : Int32 := (b4 + (m 21 ((20 * k) + i4)))
noncomputable def rX6_allHeard (k : Nat) (m : Mem) : Int32 := (it (lX6_allHeard_4 k m) (nI 0) 20)
set_option maxHeartbeats 4000000 in
set_option maxRecDepth 100000 in
theorem metX6_allHeard (l : Launch) (X : Mx) (m : Mem) (k : Nat)  (hk : k < 8) : Cn l yX6_allHeard (ws_ yX6_allHeard cX6_allHeard 4 (some .int)) 1 0 0 [.ref (mx_ad X 40), .int (nI k)] (PicM X) (KM X) (mx_A X) m (fun rv_ w_ => rv_ = some (.int (rX6_allHeard k m)) ∧ w_ = m) := by
  refine cn_i (own := RX6) rfl (Nat.le_of_ble_eq_true rfl) rfl (fun g hgl hA F hret => ?_)
  refine Wd.eql (lv' := [(0, .ref (mx_ad X 40)), (1, .int (nI k))]) rfl ?_
  refine ro_iconst (v := (nI 0)) F dX6_allHeard_0 (by decide) ?_
  refine ro_istore_n (lv' := [(0, .ref (mx_ad X 40)), (1, .int (nI k)), (2, .int (nI 0))]) F dX6_allHeard_1 (Nat.le_of_ble_eq_true rfl) [1, 2, 0] rfl ?_
  refine ro_iconst (v := (nI 0)) F dX6_allHeard_2 (by decide) ?_
  refine ro_istore_n (lv' := [(0, .ref (mx_ad X 40)), (1, .int (nI k)), (2, .int (nI 0)), (3, .int (nI 0))]) F dX6_allHeard_3 (Nat.le_of_ble_eq_true rfl) [1, 2, 3, 0] rfl ?_
  refine it_loop 20 (lX6_allHeard_4 k m) (nI 0) (fun _ _ => True) (fun (i4 : Nat) (b4 : Int32) => Wd (PicM X) g 4 m 0 0 4 [(0, .ref (mx_ad X 40)), (1, .int (nI k)), (2, .int b4), (3, .int (nI i4))] []) trivial (fun _ _ _ _ => trivial) (fun i4 b4 hi4 hf4 ih4 => ?_) (fun b4 hf4 he4 => ?_)
  · refine ro_iload_n F dX6_allHeard_4 3 rfl ?_
    refine ro_bipush (v := (nI 20)) F dX6_allHeard_5 (by decide) ?_
    refine ro_icmp_geN (tgt := 30) F dX6_allHeard_7 (by decide) (by omega) (by omega) (fun c7 => absurd c7 (by omega)) (fun c7 => ?_)
    refine ro_iload_n F dX6_allHeard_10 2 rfl ?_
    refine ro_aload_n F dX6_allHeard_11 0 rfl ?_
    refine mo_gr F 21 (Nat.le_of_ble_eq_true rfl) (by decide) lkX6_53 rfl dX6_allHeard_12 ?_
    refine ro_bipush (v := (nI 20)) F dX6_allHeard_15 (by decide) ?_
    refine ro_iload_n F dX6_allHeard_17 1 rfl ?_
    refine ro_imulN F dX6_allHeard_18 ?_
    refine ro_iload_n F dX6_allHeard_19 3 rfl ?_
    refine ro_iaddN F dX6_allHeard_20 ?_
    refine mo_ldN F 21 160 rfl (by decide) (by decide) rfl (by omega) dX6_allHeard_21 rfl ?_
    refine ro_iadd F dX6_allHeard_22 ?_
    refine ro_istore_n (lv' := [(0, .ref (mx_ad X 40)), (1, .int (nI k)), (2, .int (b4 + (m 21 ((20 * k) + i4)))), (3, .int (nI i4))]) F dX6_allHeard_23 (Nat.le_of_ble_eq_true rfl) [1, 2, 0, 3] rfl ?_
    refine ro_iincN (z := 1) (lv' := [(0, .ref (mx_ad X 40)), (1, .int (nI k)), (2, .int (b4 + (m 21 ((20 * k) + i4)))), (3, .int (nI (i4 + 1)))]) F dX6_allHeard_24 3 rfl (Nat.le_of_ble_eq_true rfl) [1, 2, 3, 0] rfl ?_
    refine ro_goto (tgt := 4) F dX6_allHeard_27 (by decide) ?_
    exact ih4
  subst he4
  refine ro_iload_n F dX6_allHeard_4 3 rfl ?_
  refine ro_bipush (v := (nI 20)) F dX6_allHeard_5 (by decide) ?_
  refine ro_icmp_geN (tgt := 30) F dX6_allHeard_7 (by decide) (by omega) (by omega) (fun c7 => ?_) (fun c7 => absurd c7 (by omega))
  refine ro_iload_n F dX6_allHeard_30 2 rfl ?_
  exact hret _ _ _ _ _ _ (Nat.le_refl _) (Nat.le_refl _) dX6_allHeard_31 rfl ⟨congrArg (fun z => some (Value.int z)) (rfl), rfl⟩
noncomputable def rX6_saverOf (k : Nat) (what : Int32) (m : Mem) : Int32 := (if what = 0 then (m 3 k) else (if what = (nI 1) then (m 4 k) else (m 5 k)))
set_option maxHeartbeats 4000000 in
set_option maxRecDepth 100000 in
theorem metX6_saverOf (l : Launch) (X : Mx) (m : Mem) (k : Nat) (what : Int32)  (hk : k < 9) : Cn l yX6_saverOf (ws_ yX6_saverOf cX6_saverOf 3 (some .int)) 1 0 0 [.ref (mx_ad X 40), .int (nI k), .int what] (PicM X) (KM X) (mx_A X) m (fun rv_ w_ => rv_ = some (.int (rX6_saverOf k what m)) ∧ w_ = m) := by
  refine cn_i (own := RX6) rfl (Nat.le_of_ble_eq_true rfl) rfl (fun g hgl hA F hret => ?_)
  refine Wd.eql (lv' := [(0, .ref (mx_ad X 40)), (1, .int (nI k)), (2, .int what)]) rfl ?_
  refine ro_iload_n F dX6_saverOf_0 2 rfl ?_
  have J33_1 : Wd (PicM X) g 3 m 0 0 33 [] [.int (if what = 0 then (m 3 k) else (if what = (nI 1) then (m 4 k) else (m 5 k)))] := by
    exact hret _ _ _ _ _ _ (Nat.le_refl _) (Nat.le_refl _) dX6_saverOf_33 rfl ⟨congrArg (fun z => some (Value.int z)) (rfl), rfl⟩
  refine ro_if_ne (tgt := 13) F dX6_saverOf_1 (by decide) (fun c1 => ?_) (fun c1 => ?_)
  · refine ro_iload_n F dX6_saverOf_13 2 rfl ?_
    refine ro_iconst (v := (nI 1)) F dX6_saverOf_14 (by decide) ?_
    refine ro_icmp_ne (tgt := 27) F dX6_saverOf_15 (by decide) (fun c15 => ?_) (fun c15 => ?_)
    · refine ro_aload_n F dX6_saverOf_27 0 rfl ?_
      refine mo_gr F 5 (Nat.le_of_ble_eq_true rfl) (by decide) lkX6_22 rfl dX6_saverOf_28 ?_
      refine ro_iload_n F dX6_saverOf_31 1 rfl ?_
      refine mo_ldN F 5 9 rfl (by decide) (by decide) rfl (by omega) dX6_saverOf_32 rfl ?_
      exact Wd.sub (lv' := []) [] rfl <| Wd.to J33_1 rfl rfl (congrArg (fun z => ([Value.int z] : List Value)) (by simp only [if_neg c1, if_neg c15]))
    · refine ro_aload_n F dX6_saverOf_18 0 rfl ?_
      refine mo_gr F 4 (Nat.le_of_ble_eq_true rfl) (by decide) lkX6_19 rfl dX6_saverOf_19 ?_
      refine ro_iload_n F dX6_saverOf_22 1 rfl ?_
      refine mo_ldN F 4 9 rfl (by decide) (by decide) rfl (by omega) dX6_saverOf_23 rfl ?_
      refine ro_goto (tgt := 33) F dX6_saverOf_24 (by decide) ?_
      exact Wd.sub (lv' := []) [] rfl <| Wd.to J33_1 rfl rfl (congrArg (fun z => ([Value.int z] : List Value)) (by simp only [if_neg c1, if_pos c15]))
  · refine ro_aload_n F dX6_saverOf_4 0 rfl ?_
    refine mo_gr F 3 (Nat.le_of_ble_eq_true rfl) (by decide) lkX6_16 rfl dX6_saverOf_5 ?_
    refine ro_iload_n F dX6_saverOf_8 1 rfl ?_
    refine mo_ldN F 3 9 rfl (by decide) (by decide) rfl (by omega) dX6_saverOf_9 rfl ?_
    refine ro_goto (tgt := 33) F dX6_saverOf_10 (by decide) ?_
    exact Wd.sub (lv' := []) [] rfl <| Wd.to J33_1 rfl rfl (congrArg (fun z => ([Value.int z] : List Value)) (by simp only [if_pos c1]))
noncomputable def rX6_byteAt (t : Nat) (k : Nat) (tl : Nat → Nat) (m : Mem) : Int32 := (if (tl t) ≤ k then (-1) else (m 1 ((31 * t) + k)))
set_option maxHeartbeats 4000000 in
set_option maxRecDepth 100000 in
theorem metX6_byteAt (l : Launch) (X : Mx) (m : Mem) (t : Nat) (k : Nat) (tl : Nat → Nat) (htl : ∀ t, t < 2 → m 0 t = nI (tl t)) (ltl : ∀ t, tl t ≤ 31) (ht : t < 2) (hk : k ≤ 100) : Cn l yX6_byteAt (ws_ yX6_byteAt cX6_byteAt 3 (some .int)) 1 0 0 [.ref (mx_ad X 40), .int (nI t), .int (nI k)] (PicM X) (KM X) (mx_A X) m (fun rv_ w_ => rv_ = some (.int (rX6_byteAt t k tl m)) ∧ w_ = m) := by
  refine cn_i (own := RX6) rfl (Nat.le_of_ble_eq_true rfl) rfl (fun g hgl hA F hret => ?_)
  refine Wd.eql (lv' := [(0, .ref (mx_ad X 40)), (1, .int (nI t)), (2, .int (nI k))]) rfl ?_
  refine ro_iload_n F dX6_byteAt_0 2 rfl ?_
  refine ro_aload_n F dX6_byteAt_1 0 rfl ?_
  refine mo_gr F 0 (Nat.le_of_ble_eq_true rfl) (by decide) lkX6_7 rfl dX6_byteAt_2 ?_
  refine ro_iload_n F dX6_byteAt_5 1 rfl ?_
  have hz := ltl t
  refine mo_ldN F 0 2 rfl (by decide) (by decide) rfl (by omega) dX6_byteAt_6 (htl t (by omega)) ?_
  have J25_7 : Wd (PicM X) g 3 m 0 0 25 [] [.int (if (tl t) ≤ k then (-1) else (m 1 ((31 * t) + k)))] := by
    exact hret _ _ _ _ _ _ (Nat.le_refl _) (Nat.le_refl _) dX6_byteAt_25 rfl ⟨congrArg (fun z => some (Value.int z)) (rfl), rfl⟩
  refine ro_icmp_geN (tgt := 24) F dX6_byteAt_7 (by decide) (by omega) (by omega) (fun c7 => ?_) (fun c7 => ?_)
  · refine ro_iconst (v := (-1)) F dX6_byteAt_24 (by decide) ?_
    exact Wd.sub (lv' := []) [] rfl <| Wd.to J25_7 rfl rfl (congrArg (fun z => ([Value.int z] : List Value)) (by simp only [if_pos c7]))
  · refine ro_aload_n F dX6_byteAt_10 0 rfl ?_
    refine mo_gr F 1 (Nat.le_of_ble_eq_true rfl) (by decide) lkX6_13 rfl dX6_byteAt_11 ?_
    refine ro_bipush (v := (nI 31)) F dX6_byteAt_14 (by decide) ?_
    refine ro_iload_n F dX6_byteAt_16 1 rfl ?_
    refine ro_imulN F dX6_byteAt_17 ?_
    refine ro_iload_n F dX6_byteAt_18 2 rfl ?_
    refine ro_iaddN F dX6_byteAt_19 ?_
    refine mo_ldN F 1 62 rfl (by decide) (by decide) rfl (by omega) dX6_byteAt_20 rfl ?_
    refine ro_goto (tgt := 25) F dX6_byteAt_21 (by decide) ?_
    exact Wd.sub (lv' := []) [] rfl <| Wd.to J25_7 rfl rfl (congrArg (fun z => ([Value.int z] : List Value)) (by simp only [if_neg (Nat.not_le.mpr c7)]))
noncomputable def rX6_figureAt (t : Nat) (k : Nat) (tl : Nat → Nat) (m : Mem) : Int32 := (if ¬ (((rX6_byteAt t k tl m) - (nI 48)) < (nI 0)) ∧ (¬ ((nI 9) < ((rX6_byteAt t k tl m) - (nI 48)))) then ((rX6_byteAt t k tl m) - (nI 48)) else (-1))
set_option maxHeartbeats 4000000 in
set_option maxRecDepth 100000 in
theorem metX6_figureAt (l : Launch) (X : Mx) (m : Mem) (t : Nat) (k : Nat) (tl : Nat → Nat) (htl : ∀ t, t < 2 → m 0 t = nI (tl t)) (ltl : ∀ t, tl t ≤ 31) (ht : t < 2) (hk : k ≤ 100) : Cn l yX6_figureAt (ws_ yX6_figureAt cX6_figureAt 4 (some .int)) 2 0 0 [.ref (mx_ad X 40), .int (nI t), .int (nI k)] (PicM X) (KM X) (mx_A X) m (fun rv_ w_ => rv_ = some (.int (rX6_figureAt t k tl m)) ∧ w_ = m) := by
  refine cn_i (own := RX6) rfl (Nat.le_of_ble_eq_true rfl) rfl (fun g hgl hA F hret => ?_)
  refine Wd.eql (lv' := [(0, .ref (mx_ad X 40)), (1, .int (nI t)), (2, .int (nI k))]) rfl ?_
  refine ro_aload_n F dX6_figureAt_0 0 rfl ?_
  refine ro_iload_n F dX6_figureAt_1 1 rfl ?_
  refine ro_iload_n F dX6_figureAt_2 2 rfl ?_
  refine mo_cV (rest := []) F hA (metX6_byteAt (gx_l g) X m t k tl htl ltl (by omega) (by omega)) cwX6_112 hdX6_byteAt rfl (Nat.le_of_ble_eq_true rfl) (Nat.le_of_ble_eq_true rfl) (Nat.le_refl _) (Nat.le_refl _) rfl (Nat.le_of_ble_eq_true rfl) dX6_figureAt_3 ?_
  refine ro_bipush (v := (nI 48)) F dX6_figureAt_6 (by decide) ?_
  refine ro_isub F dX6_figureAt_8 ?_
  refine ro_istore_n (lv' := [(0, .ref (mx_ad X 40)), (1, .int (nI t)), (2, .int (nI k)), (3, .int ((rX6_byteAt t k tl m) - (nI 48)))]) F dX6_figureAt_9 (Nat.le_of_ble_eq_true rfl) [1, 2, 3, 0] rfl ?_
  refine ro_iload_n F dX6_figureAt_10 3 rfl ?_
  refine ro_iconst (v := (nI 0)) F dX6_figureAt_11 (by decide) ?_
  refine ro_bipush (v := (nI 9)) F dX6_figureAt_12 (by decide) ?_
  refine mo_cS (rest := []) F hA (metX6_in (gx_l g) X m ((rX6_byteAt t k tl m) - (nI 48)) (nI 0) (nI 9) ) cwX6_104 hdX6_in rfl (Nat.le_of_ble_eq_true rfl) (Nat.le_of_ble_eq_true rfl) (Nat.le_refl _) (Nat.le_refl _) rfl (Nat.le_of_ble_eq_true rfl) dX6_figureAt_14 ?_
  have J25_17 : Wd (PicM X) g 4 m 0 0 25 [] [.int (if ¬ (((rX6_byteAt t k tl m) - (nI 48)) < (nI 0)) ∧ (¬ ((nI 9) < ((rX6_byteAt t k tl m) - (nI 48)))) then ((rX6_byteAt t k tl m) - (nI 48)) else (-1))] := by
    exact hret _ _ _ _ _ _ (Nat.le_refl _) (Nat.le_refl _) dX6_figureAt_25 rfl ⟨congrArg (fun z => some (Value.int z)) (rfl), rfl⟩
  refine ro_if_eqB (tgt := 24) F dX6_figureAt_17 (by decide) (fun c17 => ?_) (fun c17 => ?_)
  · refine ro_iconst (v := (-1)) F dX6_figureAt_24 (by decide) ?_
    exact Wd.sub (lv' := []) [] rfl <| Wd.to J25_17 rfl rfl (congrArg (fun z => ([Value.int z] : List Value)) (by simp only [if_neg c17]))
  · refine ro_iload_n F dX6_figureAt_20 3 rfl ?_
    refine ro_goto (tgt := 25) F dX6_figureAt_21 (by decide) ?_
    exact Wd.sub (lv' := []) [] rfl <| Wd.to J25_17 rfl rfl (congrArg (fun z => ([Value.int z] : List Value)) (by simp only [if_pos c17]))
noncomputable def rX6_letterAt (t : Nat) (k : Nat) (tl : Nat → Nat) (m : Mem) : Int32 := (if ¬ (((rX6_byteAt t k tl m) - (nI 97)) < (nI 0)) ∧ (¬ ((nI 3) < ((rX6_byteAt t k tl m) - (nI 97)))) then ((rX6_byteAt t k tl m) - (nI 97)) else (-1))
set_option maxHeartbeats 4000000 in
set_option maxRecDepth 100000 in
theorem metX6_letterAt (l : Launch) (X : Mx) (m : Mem) (t : Nat) (k : Nat) (tl : Nat → Nat) (htl : ∀ t, t < 2 → m 0 t = nI (tl t)) (ltl : ∀ t, tl t ≤ 31) (ht : t < 2) (hk : k ≤ 100) : Cn l yX6_letterAt (ws_ yX6_letterAt cX6_letterAt 4 (some .int)) 2 0 0 [.ref (mx_ad X 40), .int (nI t), .int (nI k)] (PicM X) (KM X) (mx_A X) m (fun rv_ w_ => rv_ = some (.int (rX6_letterAt t k tl m)) ∧ w_ = m) := by
  refine cn_i (own := RX6) rfl (Nat.le_of_ble_eq_true rfl) rfl (fun g hgl hA F hret => ?_)
  refine Wd.eql (lv' := [(0, .ref (mx_ad X 40)), (1, .int (nI t)), (2, .int (nI k))]) rfl ?_
  refine ro_aload_n F dX6_letterAt_0 0 rfl ?_
  refine ro_iload_n F dX6_letterAt_1 1 rfl ?_
  refine ro_iload_n F dX6_letterAt_2 2 rfl ?_
  refine mo_cV (rest := []) F hA (metX6_byteAt (gx_l g) X m t k tl htl ltl (by omega) (by omega)) cwX6_112 hdX6_byteAt rfl (Nat.le_of_ble_eq_true rfl) (Nat.le_of_ble_eq_true rfl) (Nat.le_refl _) (Nat.le_refl _) rfl (Nat.le_of_ble_eq_true rfl) dX6_letterAt_3 ?_
  refine ro_bipush (v := (nI 97)) F dX6_letterAt_6 (by decide) ?_
  refine ro_isub F dX6_letterAt_8 ?_
  refine ro_istore_n (lv' := [(0, .ref (mx_ad X 40)), (1, .int (nI t)), (2, .int (nI k)), (3, .int ((rX6_byteAt t k tl m) - (nI 97)))]) F dX6_letterAt_9 (Nat.le_of_ble_eq_true rfl) [1, 2, 3, 0] rfl ?_
  refine ro_iload_n F dX6_letterAt_10 3 rfl ?_
  refine ro_iconst (v := (nI 0)) F dX6_letterAt_11 (by decide) ?_
  refine ro_iconst (v := (nI 3)) F dX6_letterAt_12 (by decide) ?_
  refine mo_cS (rest := []) F hA (metX6_in (gx_l g) X m ((rX6_byteAt t k tl m) - (nI 97)) (nI 0) (nI 3) ) cwX6_104 hdX6_in rfl (Nat.le_of_ble_eq_true rfl) (Nat.le_of_ble_eq_true rfl) (Nat.le_refl _) (Nat.le_refl _) rfl (Nat.le_of_ble_eq_true rfl) dX6_letterAt_13 ?_
  have J24_16 : Wd (PicM X) g 4 m 0 0 24 [] [.int (if ¬ (((rX6_byteAt t k tl m) - (nI 97)) < (nI 0)) ∧ (¬ ((nI 3) < ((rX6_byteAt t k tl m) - (nI 97)))) then ((rX6_byteAt t k tl m) - (nI 97)) else (-1))] := by
    exact hret _ _ _ _ _ _ (Nat.le_refl _) (Nat.le_refl _) dX6_letterAt_24 rfl ⟨congrArg (fun z => some (Value.int z)) (rfl), rfl⟩
  refine ro_if_eqB (tgt := 23) F dX6_letterAt_16 (by decide) (fun c16 => ?_) (fun c16 => ?_)
  · refine ro_iconst (v := (-1)) F dX6_letterAt_23 (by decide) ?_
    exact Wd.sub (lv' := []) [] rfl <| Wd.to J24_16 rfl rfl (congrArg (fun z => ([Value.int z] : List Value)) (by simp only [if_neg c16]))
  · refine ro_iload_n F dX6_letterAt_19 3 rfl ?_
    refine ro_goto (tgt := 24) F dX6_letterAt_20 (by decide) ?_
    exact Wd.sub (lv' := []) [] rfl <| Wd.to J24_16 rfl rfl (congrArg (fun z => ([Value.int z] : List Value)) (by simp only [if_pos c16]))
noncomputable def rX6_readsSaver (at_ : Nat) (tl : Nat → Nat) (m : Mem) : Nat := (if (rX6_figureAt 0 at_ tl m) = (-1) then 0 else (if (rX6_byteAt 0 (at_ + 1) tl m) = (nI 100) then (if (rX6_letterAt 0 (at_ + 2) tl m) = (-1) then 2 else 3) else (if (rX6_byteAt 0 (at_ + 1) tl m) = (nI 107) then (if (rX6_letterAt 0 (at_ + 2) tl m) = (-1) then 2 else 3) else 1)))
noncomputable def fX6_readsSaver (n : Nat) (at_ : Nat) (tl : Nat → Nat) (m : Mem) : Mem := (if (rX6_figureAt 0 at_ tl m) = (-1) then m else (if (rX6_byteAt 0 (at_ + 1) tl m) = (nI 100) then (if (rX6_letterAt 0 (at_ + 2) tl m) = (-1) then m else (m2 (m2 (m2 m 3 n (rX6_figureAt 0 at_ tl m)) 4 n (b2 ((rX6_byteAt 0 (at_ + 1) tl m) = (nI 107)))) 5 n (rX6_letterAt 0 (at_ + 2) tl m))) else (if (rX6_byteAt 0 (at_ + 1) tl m) = (nI 107) then (if (rX6_letterAt 0 (at_ + 2) tl m) = (-1) then m else (m2 (m2 (m2 m 3 n (rX6_figureAt 0 at_ tl m)) 4 n (b2 ((rX6_byteAt 0 (at_ + 1) tl m) = (nI 107)))) 5 n (rX6_letterAt 0 (at_ + 2) tl m))) else m)))
theorem fr_fX6_readsSaver (n : Nat) (at_ : Nat) (tl : Nat → Nat) (m : Mem) (f : Nat) (h3 : f ≠ 3) (h4 : f ≠ 4) (h5 : f ≠ 5) : fX6_readsSaver n at_ tl m f = m f := ite_fr (rfl) (ite_fr (ite_fr (rfl) ((m2_ff _ _ h5).trans ((m2_ff _ _ h4).trans ((m2_ff _ _ h3).trans (rfl))))) (ite_fr (ite_fr (rfl) ((m2_ff _ _ h5).trans ((m2_ff _ _ h4).trans ((m2_ff _ _ h3).trans (rfl))))) (rfl)))
set_option maxHeartbeats 4000000 in
set_option maxRecDepth 100000 in
theorem metX6_readsSaver (l : Launch) (X : Mx) (m : Mem) (n : Nat) (at_ : Nat) (tl : Nat → Nat) (htl : ∀ t, t < 2 → m 0 t = nI (tl t)) (ltl : ∀ t, tl t ≤ 31) (hn : n < 9) (hat : at_ ≤ 90) : Cn l yX6_readsSaver (ws_ yX6_readsSaver cX6_readsSaver 6 (some .int)) 3 0 0 [.ref (mx_ad X 40), .int (nI n), .int (nI at_)] (PicM X) (KM X) (mx_A X) m (fun rv_ w_ => rv_ = some (.int (nI (rX6_readsSaver at_ tl m))) ∧ w_ = (fX6_readsSaver n at_ tl m)) := by
  refine cn_i (own := RX6) rfl (Nat.le_of_ble_eq_true rfl) rfl (fun g hgl hA F hret => ?_)
  refine Wd.eql (lv' := [(0, .ref (mx_ad X 40)), (1, .int (nI n)), (2, .int (nI at_))]) rfl ?_
  refine ro_aload_n F dX6_readsSaver_0 0 rfl ?_
  refine ro_iconst (v := (nI 0)) F dX6_readsSaver_1 (by decide) ?_
  refine ro_iload_n F dX6_readsSaver_2 2 rfl ?_
  refine mo_cV (rest := []) F hA (metX6_figureAt (gx_l g) X m 0 at_ tl htl ltl (by omega) (by omega)) cwX6_116 hdX6_figureAt rfl (Nat.le_of_ble_eq_true rfl) (Nat.le_of_ble_eq_true rfl) (Nat.le_refl _) (Nat.le_refl _) rfl (Nat.le_of_ble_eq_true rfl) dX6_readsSaver_3 ?_
  refine ro_istore_n (lv' := [(0, .ref (mx_ad X 40)), (1, .int (nI n)), (2, .int (nI at_)), (3, .int (rX6_figureAt 0 at_ tl m))]) F dX6_readsSaver_6 (Nat.le_of_ble_eq_true rfl) [1, 2, 3, 0] rfl ?_
  refine ro_aload_n F dX6_readsSaver_7 0 rfl ?_
  refine ro_iconst (v := (nI 0)) F dX6_readsSaver_8 (by decide) ?_
  refine ro_iload_n F dX6_readsSaver_9 2 rfl ?_
  refine ro_iconst (v := (nI 1)) F dX6_readsSaver_10 (by decide) ?_
  refine ro_iaddN F dX6_readsSaver_11 ?_
  refine mo_cV (rest := []) F hA (metX6_byteAt (gx_l g) X m 0 (at_ + 1) tl htl ltl (by omega) (by omega)) cwX6_112 hdX6_byteAt rfl (Nat.le_of_ble_eq_true rfl) (Nat.le_of_ble_eq_true rfl) (Nat.le_refl _) (Nat.le_refl _) rfl (Nat.le_of_ble_eq_true rfl) dX6_readsSaver_12 ?_
  refine ro_istore (lv' := [(0, .ref (mx_ad X 40)), (1, .int (nI n)), (2, .int (nI at_)), (3, .int (rX6_figureAt 0 at_ tl m)), (4, .int (rX6_byteAt 0 (at_ + 1) tl m))]) F dX6_readsSaver_15 (Nat.le_of_ble_eq_true rfl) [1, 2, 3, 4, 0] rfl ?_
  refine ro_aload_n F dX6_readsSaver_17 0 rfl ?_
  refine ro_iconst (v := (nI 0)) F dX6_readsSaver_18 (by decide) ?_
  refine ro_iload_n F dX6_readsSaver_19 2 rfl ?_
  refine ro_iconst (v := (nI 2)) F dX6_readsSaver_20 (by decide) ?_
  refine ro_iaddN F dX6_readsSaver_21 ?_
  refine mo_cV (rest := []) F hA (metX6_letterAt (gx_l g) X m 0 (at_ + 2) tl htl ltl (by omega) (by omega)) cwX6_119 hdX6_letterAt rfl (Nat.le_of_ble_eq_true rfl) (Nat.le_of_ble_eq_true rfl) (Nat.le_refl _) (Nat.le_refl _) rfl (Nat.le_of_ble_eq_true rfl) dX6_readsSaver_22 ?_
  refine ro_istore (lv' := [(0, .ref (mx_ad X 40)), (1, .int (nI n)), (2, .int (nI at_)), (3, .int (rX6_figureAt 0 at_ tl m)), (4, .int (rX6_byteAt 0 (at_ + 1) tl m)), (5, .int (rX6_letterAt 0 (at_ + 2) tl m))]) F dX6_readsSaver_25 (Nat.le_of_ble_eq_true rfl) [1, 2, 3, 4, 5, 0] rfl ?_
  refine ro_iload_n F dX6_readsSaver_27 3 rfl ?_
  refine ro_iconst (v := (-1)) F dX6_readsSaver_28 (by decide) ?_
  refine ro_icmp_ne (tgt := 34) F dX6_readsSaver_29 (by decide) (fun c29 => ?_) (fun c29 => ?_)
  · refine ro_iload F dX6_readsSaver_34 4 rfl ?_
    refine ro_bipush (v := (nI 100)) F dX6_readsSaver_36 (by decide) ?_
    refine ro_icmp_eq (tgt := 50) F dX6_readsSaver_38 (by decide) (fun c38 => ?_) (fun c38 => ?_)
    · refine ro_iload F dX6_readsSaver_50 5 rfl ?_
      refine ro_iconst (v := (-1)) F dX6_readsSaver_52 (by decide) ?_
      refine ro_icmp_ne (tgt := 58) F dX6_readsSaver_53 (by decide) (fun c53 => ?_) (fun c53 => ?_)
      · refine ro_aload_n F dX6_readsSaver_58 0 rfl ?_
        refine mo_gr F 3 (Nat.le_of_ble_eq_true rfl) (by decide) lkX6_16 rfl dX6_readsSaver_59 ?_
        refine ro_iload_n F dX6_readsSaver_62 1 rfl ?_
        refine ro_iload_n F dX6_readsSaver_63 3 rfl ?_
        refine mo_stN F hA 3 9 rfl (by decide) (by decide) rfl (by omega) dX6_readsSaver_64 ?_
        refine ro_aload_n F dX6_readsSaver_65 0 rfl ?_
        refine mo_gr F 4 (Nat.le_of_ble_eq_true rfl) (by decide) lkX6_19 rfl dX6_readsSaver_66 ?_
        refine ro_iload_n F dX6_readsSaver_69 1 rfl ?_
        refine ro_iload F dX6_readsSaver_70 4 rfl ?_
        refine ro_bipush (v := (nI 107)) F dX6_readsSaver_72 (by decide) ?_
        have J82_74 : Wd (PicM X) g 6 (m2 m 3 n (rX6_figureAt 0 at_ tl m)) 0 0 82 [(0, .ref (mx_ad X 40)), (1, .int (nI n)), (5, .int (rX6_letterAt 0 (at_ + 2) tl m))] [.int (b2 ((rX6_byteAt 0 (at_ + 1) tl m) = (nI 107))), .int (nI n), .ref (mx_ad X 4)] := by
          refine mo_stN F hA 4 9 rfl (by decide) (by decide) rfl (by omega) dX6_readsSaver_82 ?_
          refine ro_aload_n F dX6_readsSaver_83 0 rfl ?_
          refine mo_gr F 5 (Nat.le_of_ble_eq_true rfl) (by decide) lkX6_22 rfl dX6_readsSaver_84 ?_
          refine ro_iload_n F dX6_readsSaver_87 1 rfl ?_
          refine ro_iload F dX6_readsSaver_88 2 rfl ?_
          refine mo_stN F hA 5 9 rfl (by decide) (by decide) rfl (by omega) dX6_readsSaver_90 ?_
          refine ro_iconst (v := (nI 3)) F dX6_readsSaver_91 (by decide) ?_
          exact hret _ _ _ _ _ _ (Nat.le_refl _) (Nat.le_refl _) dX6_readsSaver_92 rfl ⟨congrArg (fun z => some (Value.int z)) (congrArg nI (by simp only [rX6_readsSaver, if_neg c29, if_pos c38, if_neg c53])), (by simp only [fX6_readsSaver, if_neg c29, if_pos c38, if_neg c53])⟩
        refine ro_icmp_ne (tgt := 81) F dX6_readsSaver_74 (by decide) (fun c74 => ?_) (fun c74 => ?_)
        · refine ro_iconst (v := (nI 0)) F dX6_readsSaver_81 (by decide) ?_
          exact Wd.sub (lv' := [(0, .ref (mx_ad X 40)), (1, .int (nI n)), (5, .int (rX6_letterAt 0 (at_ + 2) tl m))]) [0, 1, 5] rfl <| Wd.to J82_74 rfl rfl (congrArg (fun z => ([Value.int z, .int (nI n), .ref (mx_ad X 4)] : List Value)) ((b2_f (by simp [c74])).symm))
        · refine ro_iconst (v := (nI 1)) F dX6_readsSaver_77 (by decide) ?_
          refine ro_goto (tgt := 82) F dX6_readsSaver_78 (by decide) ?_
          exact Wd.sub (lv' := [(0, .ref (mx_ad X 40)), (1, .int (nI n)), (5, .int (rX6_letterAt 0 (at_ + 2) tl m))]) [0, 1, 5] rfl <| Wd.to J82_74 rfl rfl (congrArg (fun z => ([Value.int z, .int (nI n), .ref (mx_ad X 4)] : List Value)) ((b2_t (by simp [c74])).symm))
      · refine ro_iconst (v := (nI 2)) F dX6_readsSaver_56 (by decide) ?_
        exact hret _ _ _ _ _ _ (Nat.le_refl _) (Nat.le_refl _) dX6_readsSaver_57 rfl ⟨congrArg (fun z => some (Value.int z)) (congrArg nI (by simp only [rX6_readsSaver, if_neg c29, if_pos c38, if_pos c53])), (by simp only [fX6_readsSaver, if_neg c29, if_pos c38, if_pos c53])⟩
    · refine ro_iload F dX6_readsSaver_41 4 rfl ?_
      refine ro_bipush (v := (nI 107)) F dX6_readsSaver_43 (by decide) ?_
      refine ro_icmp_eq (tgt := 50) F dX6_readsSaver_45 (by decide) (fun c45 => ?_) (fun c45 => ?_)
      · refine ro_iload F dX6_readsSaver_50 5 rfl ?_
        refine ro_iconst (v := (-1)) F dX6_readsSaver_52 (by decide) ?_
        refine ro_icmp_ne (tgt := 58) F dX6_readsSaver_53 (by decide) (fun c53 => ?_) (fun c53 => ?_)
        · refine ro_aload_n F dX6_readsSaver_58 0 rfl ?_
          refine mo_gr F 3 (Nat.le_of_ble_eq_true rfl) (by decide) lkX6_16 rfl dX6_readsSaver_59 ?_
          refine ro_iload_n F dX6_readsSaver_62 1 rfl ?_
          refine ro_iload_n F dX6_readsSaver_63 3 rfl ?_
          refine mo_stN F hA 3 9 rfl (by decide) (by decide) rfl (by omega) dX6_readsSaver_64 ?_
          refine ro_aload_n F dX6_readsSaver_65 0 rfl ?_
          refine mo_gr F 4 (Nat.le_of_ble_eq_true rfl) (by decide) lkX6_19 rfl dX6_readsSaver_66 ?_
          refine ro_iload_n F dX6_readsSaver_69 1 rfl ?_
          refine ro_iload F dX6_readsSaver_70 4 rfl ?_
          refine ro_bipush (v := (nI 107)) F dX6_readsSaver_72 (by decide) ?_
          have J82_74 : Wd (PicM X) g 6 (m2 m 3 n (rX6_figureAt 0 at_ tl m)) 0 0 82 [(0, .ref (mx_ad X 40)), (1, .int (nI n)), (5, .int (rX6_letterAt 0 (at_ + 2) tl m))] [.int (b2 ((rX6_byteAt 0 (at_ + 1) tl m) = (nI 107))), .int (nI n), .ref (mx_ad X 4)] := by
            refine mo_stN F hA 4 9 rfl (by decide) (by decide) rfl (by omega) dX6_readsSaver_82 ?_
            refine ro_aload_n F dX6_readsSaver_83 0 rfl ?_
            refine mo_gr F 5 (Nat.le_of_ble_eq_true rfl) (by decide) lkX6_22 rfl dX6_readsSaver_84 ?_
            refine ro_iload_n F dX6_readsSaver_87 1 rfl ?_
            refine ro_iload F dX6_readsSaver_88 2 rfl ?_
            refine mo_stN F hA 5 9 rfl (by decide) (by decide) rfl (by omega) dX6_readsSaver_90 ?_
            refine ro_iconst (v := (nI 3)) F dX6_readsSaver_91 (by decide) ?_
            exact hret _ _ _ _ _ _ (Nat.le_refl _) (Nat.le_refl _) dX6_readsSaver_92 rfl ⟨congrArg (fun z => some (Value.int z)) (congrArg nI (by simp only [rX6_readsSaver, if_neg c29, if_neg c38, if_pos c45, if_neg c53])), (by simp only [fX6_readsSaver, if_neg c29, if_neg c38, if_pos c45, if_neg c53])⟩
          refine ro_icmp_ne (tgt := 81) F dX6_readsSaver_74 (by decide) (fun c74 => ?_) (fun c74 => ?_)
          · refine ro_iconst (v := (nI 0)) F dX6_readsSaver_81 (by decide) ?_
            exact Wd.sub (lv' := [(0, .ref (mx_ad X 40)), (1, .int (nI n)), (5, .int (rX6_letterAt 0 (at_ + 2) tl m))]) [0, 1, 5] rfl <| Wd.to J82_74 rfl rfl (congrArg (fun z => ([Value.int z, .int (nI n), .ref (mx_ad X 4)] : List Value)) ((b2_f (by simp [c74])).symm))
          · refine ro_iconst (v := (nI 1)) F dX6_readsSaver_77 (by decide) ?_
            refine ro_goto (tgt := 82) F dX6_readsSaver_78 (by decide) ?_
            exact Wd.sub (lv' := [(0, .ref (mx_ad X 40)), (1, .int (nI n)), (5, .int (rX6_letterAt 0 (at_ + 2) tl m))]) [0, 1, 5] rfl <| Wd.to J82_74 rfl rfl (congrArg (fun z => ([Value.int z, .int (nI n), .ref (mx_ad X 4)] : List Value)) ((b2_t (by simp [c74])).symm))
        · refine ro_iconst (v := (nI 2)) F dX6_readsSaver_56 (by decide) ?_
          exact hret _ _ _ _ _ _ (Nat.le_refl _) (Nat.le_refl _) dX6_readsSaver_57 rfl ⟨congrArg (fun z => some (Value.int z)) (congrArg nI (by simp only [rX6_readsSaver, if_neg c29, if_neg c38, if_pos c45, if_pos c53])), (by simp only [fX6_readsSaver, if_neg c29, if_neg c38, if_pos c45, if_pos c53])⟩
      · refine ro_iconst (v := (nI 1)) F dX6_readsSaver_48 (by decide) ?_
        exact hret _ _ _ _ _ _ (Nat.le_refl _) (Nat.le_refl _) dX6_readsSaver_49 rfl ⟨congrArg (fun z => some (Value.int z)) (congrArg nI (by simp only [rX6_readsSaver, if_neg c29, if_neg c38, if_neg c45])), (by simp only [fX6_readsSaver, if_neg c29, if_neg c38, if_neg c45])⟩
  · refine ro_iconst (v := (nI 0)) F dX6_readsSaver_32 (by decide) ?_
    exact hret _ _ _ _ _ _ (Nat.le_refl _) (Nat.le_refl _) dX6_readsSaver_33 rfl ⟨congrArg (fun z => some (Value.int z)) (congrArg nI (by simp only [rX6_readsSaver, if_pos c29])), (by simp only [fX6_readsSaver, if_pos c29])⟩
noncomputable def rX6_readsPartner (at_ : Nat) (tl : Nat → Nat) (m : Mem) : Nat := (if (rX6_figureAt 1 at_ tl m) = (-1) then 0 else (if (rX6_letterAt 1 (at_ + 1) tl m) = (-1) then 1 else 2))
noncomputable def fX6_readsPartner (n : Nat) (at_ : Nat) (tl : Nat → Nat) (m : Mem) : Mem := (if (rX6_figureAt 1 at_ tl m) = (-1) then m else (if (rX6_letterAt 1 (at_ + 1) tl m) = (-1) then m else (m2 (m2 m 7 n (rX6_figureAt 1 at_ tl m)) 8 n (rX6_letterAt 1 (at_ + 1) tl m))))
theorem fr_fX6_readsPartner (n : Nat) (at_ : Nat) (tl : Nat → Nat) (m : Mem) (f : Nat) (h7 : f ≠ 7) (h8 : f ≠ 8) : fX6_readsPartner n at_ tl m f = m f := ite_fr (rfl) (ite_fr (rfl) ((m2_ff _ _ h8).trans ((m2_ff _ _ h7).trans (rfl))))
set_option maxHeartbeats 4000000 in
set_option maxRecDepth 100000 in
theorem metX6_readsPartner (l : Launch) (X : Mx) (m : Mem) (n : Nat) (at_ : Nat) (tl : Nat → Nat) (htl : ∀ t, t < 2 → m 0 t = nI (tl t)) (ltl : ∀ t, tl t ≤ 31) (hn : n < 9) (hat : at_ ≤ 90) : Cn l yX6_readsPartner (ws_ yX6_readsPartner cX6_readsPartner 5 (some .int)) 3 0 0 [.ref (mx_ad X 40), .int (nI n), .int (nI at_)] (PicM X) (KM X) (mx_A X) m (fun rv_ w_ => rv_ = some (.int (nI (rX6_readsPartner at_ tl m))) ∧ w_ = (fX6_readsPartner n at_ tl m)) := by
  refine cn_i (own := RX6) rfl (Nat.le_of_ble_eq_true rfl) rfl (fun g hgl hA F hret => ?_)
  refine Wd.eql (lv' := [(0, .ref (mx_ad X 40)), (1, .int (nI n)), (2, .int (nI at_))]) rfl ?_
  refine ro_aload_n F dX6_readsPartner_0 0 rfl ?_
  refine ro_iconst (v := (nI 1)) F dX6_readsPartner_1 (by decide) ?_
  refine ro_iload_n F dX6_readsPartner_2 2 rfl ?_
  refine mo_cV (rest := []) F hA (metX6_figureAt (gx_l g) X m 1 at_ tl htl ltl (by omega) (by omega)) cwX6_116 hdX6_figureAt rfl (Nat.le_of_ble_eq_true rfl) (Nat.le_of_ble_eq_true rfl) (Nat.le_refl _) (Nat.le_refl _) rfl (Nat.le_of_ble_eq_true rfl) dX6_readsPartner_3 ?_
  refine ro_istore_n (lv' := [(0, .ref (mx_ad X 40)), (1, .int (nI n)), (2, .int (nI at_)), (3, .int (rX6_figureAt 1 at_ tl m))]) F dX6_readsPartner_6 (Nat.le_of_ble_eq_true rfl) [1, 2, 3, 0] rfl ?_
  refine ro_aload_n F dX6_readsPartner_7 0 rfl ?_
  refine ro_iconst (v := (nI 1)) F dX6_readsPartner_8 (by decide) ?_
  refine ro_iload_n F dX6_readsPartner_9 2 rfl ?_
  refine ro_iconst (v := (nI 1)) F dX6_readsPartner_10 (by decide) ?_
  refine ro_iaddN F dX6_readsPartner_11 ?_
  refine mo_cV (rest := []) F hA (metX6_letterAt (gx_l g) X m 1 (at_ + 1) tl htl ltl (by omega) (by omega)) cwX6_119 hdX6_letterAt rfl (Nat.le_of_ble_eq_true rfl) (Nat.le_of_ble_eq_true rfl) (Nat.le_refl _) (Nat.le_refl _) rfl (Nat.le_of_ble_eq_true rfl) dX6_readsPartner_12 ?_
  refine ro_istore (lv' := [(0, .ref (mx_ad X 40)), (1, .int (nI n)), (2, .int (nI at_)), (3, .int (rX6_figureAt 1 at_ tl m)), (4, .int (rX6_letterAt 1 (at_ + 1) tl m))]) F dX6_readsPartner_15 (Nat.le_of_ble_eq_true rfl) [1, 2, 3, 4, 0] rfl ?_
  refine ro_iload_n F dX6_readsPartner_17 3 rfl ?_
  refine ro_iconst (v := (-1)) F dX6_readsPartner_18 (by decide) ?_
  refine ro_icmp_ne (tgt := 24) F dX6_readsPartner_19 (by decide) (fun c19 => ?_) (fun c19 => ?_)
  · refine ro_iload F dX6_readsPartner_24 4 rfl ?_
    refine ro_iconst (v := (-1)) F dX6_readsPartner_26 (by decide) ?_
    refine ro_icmp_ne (tgt := 32) F dX6_readsPartner_27 (by decide) (fun c27 => ?_) (fun c27 => ?_)
    · refine ro_aload_n F dX6_readsPartner_32 0 rfl ?_
      refine mo_gr F 7 (Nat.le_of_ble_eq_true rfl) (by decide) lkX6_25 rfl dX6_readsPartner_33 ?_
      refine ro_iload_n F dX6_readsPartner_36 1 rfl ?_
      refine ro_iload_n F dX6_readsPartner_37 3 rfl ?_
      refine mo_stN F hA 7 9 rfl (by decide) (by decide) rfl (by omega) dX6_readsPartner_38 ?_
      refine ro_aload_n F dX6_readsPartner_39 0 rfl ?_
      refine mo_gr F 8 (Nat.le_of_ble_eq_true rfl) (by decide) lkX6_28 rfl dX6_readsPartner_40 ?_
      refine ro_iload_n F dX6_readsPartner_43 1 rfl ?_
      refine ro_iload F dX6_readsPartner_44 4 rfl ?_
      refine mo_stN F hA 8 9 rfl (by decide) (by decide) rfl (by omega) dX6_readsPartner_46 ?_
      refine ro_iconst (v := (nI 2)) F dX6_readsPartner_47 (by decide) ?_
      exact hret _ _ _ _ _ _ (Nat.le_refl _) (Nat.le_refl _) dX6_readsPartner_48 rfl ⟨congrArg (fun z => some (Value.int z)) (congrArg nI (by simp only [rX6_readsPartner, if_neg c19, if_neg c27])), (by simp only [fX6_readsPartner, if_neg c19, if_neg c27])⟩
    · refine ro_iconst (v := (nI 1)) F dX6_readsPartner_30 (by decide) ?_
      exact hret _ _ _ _ _ _ (Nat.le_refl _) (Nat.le_refl _) dX6_readsPartner_31 rfl ⟨congrArg (fun z => some (Value.int z)) (congrArg nI (by simp only [rX6_readsPartner, if_neg c19, if_pos c27])), (by simp only [fX6_readsPartner, if_neg c19, if_pos c27])⟩
  · refine ro_iconst (v := (nI 0)) F dX6_readsPartner_22 (by decide) ?_
    exact hret _ _ _ _ _ _ (Nat.le_refl _) (Nat.le_refl _) dX6_readsPartner_23 rfl ⟨congrArg (fun z => some (Value.int z)) (congrArg nI (by simp only [rX6_readsPartner, if_pos c19])), (by simp only [fX6_readsPartner, if_pos c19])⟩
