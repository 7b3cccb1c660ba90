theorem nI_ne1 {a : Nat} (h : a < 2 ^ 31) : ¬ nI a = -1 := fun e => by
  have := congrArg Int32.toInt e
  rw [nI_toInt h] at this
  have h2 : (-1 : Int32).toInt = -1 := by decide
  omega
noncomputable def rX6_owedOf_all (day : Nat) (tl : Nat → Nat) (nc : Nat) (nw : Nat) (cd : Nat → Nat) (cs : Nat → Nat) (wd : Nat → Nat) (m : Mem) : Int32 := (rX6_allOwed day (nS tl m) (fX6_runsTold tl nc nw cd cs wd m))
noncomputable def fX6_owedOf_all (tl : Nat → Nat) (nc : Nat) (nw : Nat) (cd : Nat → Nat) (cs : Nat → Nat) (wd : Nat → Nat) (m : Mem) : Mem := (fX6_runsTold tl nc nw cd cs wd m)
theorem fr_fX6_owedOf_all (tl : Nat → Nat) (nc : Nat) (nw : Nat) (cd : Nat → Nat) (cs : Nat → Nat) (wd : Nat → Nat) (m : Mem) (f : Nat) (h2 : f ≠ 2) (h3 : f ≠ 3) (h4 : f ≠ 4) (h5 : f ≠ 5) (h6 : f ≠ 6) (h7 : f ≠ 7) (h8 : f ≠ 8) (h16 : f ≠ 16) (h17 : f ≠ 17) (h18 : f ≠ 18) (h19 : f ≠ 19) (h20 : f ≠ 20) (h21 : f ≠ 21) (h22 : f ≠ 22) (h23 : f ≠ 23) (h24 : f ≠ 24) (h25 : f ≠ 25) (h26 : f ≠ 26) (h27 : f ≠ 27) : fX6_owedOf_all tl nc nw cd cs wd m f = m f := (fr_fX6_runsTold tl nc nw cd cs wd m f h2 h3 h4 h5 h6 h7 h8 h16 h17 h18 h19 h20 h21 h22 h23 h24 h25 h26 h27).trans (rfl)
theorem gv_X6_owedOf_all_2 (m : Mem) (day : Nat) (tl : Nat → Nat) (nc : Nat) (nw : Nat) (cd : Nat → Nat) (cs : Nat → Nat) (wd : Nat → Nat) (htl : ∀ t, t < 2 → m 0 t = nI (tl t)) (ltl : ∀ t, tl t ≤ 31) (hnc : m 11 0 = nI nc) (lnc : nc ≤ 8) (hnw : m 14 0 = nI nw) (lnw : nw ≤ 6) (hcd : ∀ j, j < nc → m 12 j = nI (cd j)) (lcd : ∀ j, j < nc → cd j < 20) (hcs : ∀ j, j < nc → m 13 j = nI (cs j)) (lcs : ∀ j, j < nc → cs j < 8) (hwd : ∀ j, j < nw → m 15 j = nI (wd j)) (lwd : ∀ j, j < nw → wd j < 20) (hday : day < 20) : fX6_owedOf_all tl nc nw cd cs wd m 2 0 = (nI (nS tl m)) := show (fX6_runsTold tl nc nw cd cs wd m) 2 0 = _ from gv_X6_runsTold_2 m tl nc nw cd cs wd htl ltl hnc (by omega) hnw (by omega) hcd lcd hcs lcs hwd lwd
theorem gv_X6_owedOf_all_6 (m : Mem) (day : Nat) (tl : Nat → Nat) (nc : Nat) (nw : Nat) (cd : Nat → Nat) (cs : Nat → Nat) (wd : Nat → Nat) (htl : ∀ t, t < 2 → m 0 t = nI (tl t)) (ltl : ∀ t, tl t ≤ 31) (hnc : m 11 0 = nI nc) (lnc : nc ≤ 8) (hnw : m 14 0 = nI nw) (lnw : nw ≤ 6) (hcd : ∀ j, j < nc → m 12 j = nI (cd j)) (lcd : ∀ j, j < nc → cd j < 20) (hcs : ∀ j, j < nc → m 13 j = nI (cs j)) (lcs : ∀ j, j < nc → cs j < 8) (hwd : ∀ j, j < nw → m 15 j = nI (wd j)) (lwd : ∀ j, j < nw → wd j < 20) (hday : day < 20) : fX6_owedOf_all tl nc nw cd cs wd m 6 0 = (nI (nP tl m)) := show (fX6_runsTold tl nc nw cd cs wd m) 6 0 = _ from gv_X6_runsTold_6 m tl nc nw cd cs wd htl ltl hnc (by omega) hnw (by omega) hcd lcd hcs lcs hwd lwd
set_option maxHeartbeats 4000000 in
set_option maxRecDepth 100000 in
theorem metX6_owedOf_all (l : Launch) (X : Mx) (m : Mem) (day : Nat) (tl : Nat → Nat) (nc : Nat) (nw : Nat) (cd : Nat → Nat) (cs : Nat → Nat) (wd : Nat → Nat) (htl : ∀ t, t < 2 → m 0 t = nI (tl t)) (ltl : ∀ t, tl t ≤ 31) (hnc : m 11 0 = nI nc) (lnc : nc ≤ 8) (hnw : m 14 0 = nI nw) (lnw : nw ≤ 6) (hcd : ∀ j, j < nc → m 12 j = nI (cd j)) (lcd : ∀ j, j < nc → cd j < 20) (hcs : ∀ j, j < nc → m 13 j = nI (cs j)) (lcs : ∀ j, j < nc → cs j < 8) (hwd : ∀ j, j < nw → m 15 j = nI (wd j)) (lwd : ∀ j, j < nw → wd j < 20) (hday : day < 20) : Cn l yX6_owedOf (ws_ yX6_owedOf cX6_owedOf 3 (some .int)) 9 0 0 [.ref (mx_ad X 40), .int (nI day), .int (-1)] (PicM X) (KM X) (mx_A X) m (fun rv_ w_ => rv_ = some (.int (rX6_owedOf_all day tl nc nw cd cs wd m)) ∧ w_ = (fX6_owedOf_all tl nc nw cd cs wd m)) := by
  refine cn_i (own := RX6) rfl (Nat.le_of_ble_eq_true rfl) rfl (fun g hgl hA F hret => ?_)
  refine Wd.eql (lv' := [(0, .ref (mx_ad X 40)), (1, .int (nI day)), (2, .int (-1))]) rfl ?_
  refine ro_aload_n F dX6_owedOf_0 0 rfl ?_
  refine mo_cV (rest := []) F hA (metX6_runsTold (gx_l g) X m tl nc nw cd cs wd htl ltl hnc (by omega) hnw (by omega) hcd lcd hcs lcs hwd lwd) cwX6_207 hdX6_runsTold rfl (Nat.le_of_ble_eq_true rfl) (Nat.le_of_ble_eq_true rfl) (Nat.le_refl _) (Nat.le_refl _) rfl (Nat.le_of_ble_eq_true rfl) dX6_owedOf_1 ?_
  refine ro_iload_n F dX6_owedOf_4 2 rfl ?_
  refine ro_iconst (v := (-1)) F dX6_owedOf_5 (by decide) ?_
  refine ro_icmp_ne (tgt := 17) F dX6_owedOf_6 (by decide) (fun c6 => absurd rfl c6) (fun c6 => ?_)
  refine ro_aload_n F dX6_owedOf_9 0 rfl ?_
  refine ro_iload_n F dX6_owedOf_10 1 rfl ?_
  have hz := lS tl m
  refine mo_cV (rest := []) F hA (metX6_allOwed (gx_l g) X (fX6_runsTold tl nc nw cd cs wd m) day (nS tl m) (gv_X6_runsTold_2 m tl nc nw cd cs wd htl ltl hnc (by omega) hnw (by omega) hcd lcd hcs lcs hwd lwd) (by omega) (by omega)) cwX6_210 hdX6_allOwed rfl (Nat.le_of_ble_eq_true rfl) (Nat.le_of_ble_eq_true rfl) (Nat.le_refl _) (Nat.le_refl _) rfl (Nat.le_of_ble_eq_true rfl) dX6_owedOf_11 ?_
  refine ro_goto (tgt := 28) F dX6_owedOf_14 (by decide) ?_
  exact hret _ _ _ _ _ _ (Nat.le_refl _) (Nat.le_refl _) dX6_owedOf_28 rfl ⟨congrArg (fun z => some (Value.int z)) (rfl), rfl⟩
noncomputable def rX6_owedOf_k (day : Nat) (k : Nat) (tl : Nat → Nat) (nc : Nat) (nw : Nat) (cd : Nat → Nat) (cs : Nat → Nat) (wd : Nat → Nat) (m : Mem) : Int32 := ((fX6_runsTold tl nc nw cd cs wd m) 20 ((20 * k) + day))
noncomputable def fX6_owedOf_k (tl : Nat → Nat) (nc : Nat) (nw : Nat) (cd : Nat → Nat) (cs : Nat → Nat) (wd : Nat → Nat) (m : Mem) : Mem := (fX6_runsTold tl nc nw cd cs wd m)
theorem fr_fX6_owedOf_k (tl : Nat → Nat) (nc : Nat) (nw : Nat) (cd : Nat → Nat) (cs : Nat → Nat) (wd : Nat → Nat) (m : Mem) (f : Nat) (h2 : f ≠ 2) (h3 : f ≠ 3) (h4 : f ≠ 4) (h5 : f ≠ 5) (h6 : f ≠ 6) (h7 : f ≠ 7) (h8 : f ≠ 8) (h16 : f ≠ 16) (h17 : f ≠ 17) (h18 : f ≠ 18) (h19 : f ≠ 19) (h20 : f ≠ 20) (h21 : f ≠ 21) (h22 : f ≠ 22) (h23 : f ≠ 23) (h24 : f ≠ 24) (h25 : f ≠ 25) (h26 : f ≠ 26) (h27 : f ≠ 27) : fX6_owedOf_k tl nc nw cd cs wd m f = m f := (fr_fX6_runsTold tl nc nw cd cs wd m f h2 h3 h4 h5 h6 h7 h8 h16 h17 h18 h19 h20 h21 h22 h23 h24 h25 h26 h27).trans (rfl)
theorem gv_X6_owedOf_k_2 (m : Mem) (day : Nat) (k : Nat) (tl : Nat → Nat) (nc : Nat) (nw : Nat) (cd : Nat → Nat) (cs : Nat → Nat) (wd : Nat → Nat) (htl : ∀ t, t < 2 → m 0 t = nI (tl t)) (ltl : ∀ t, tl t ≤ 31) (hnc : m 11 0 = nI nc) (lnc : nc ≤ 8) (hnw : m 14 0 = nI nw) (lnw : nw ≤ 6) (hcd : ∀ j, j < nc → m 12 j = nI (cd j)) (lcd : ∀ j, j < nc → cd j < 20) (hcs : ∀ j, j < nc → m 13 j = nI (cs j)) (lcs : ∀ j, j < nc → cs j < 8) (hwd : ∀ j, j < nw → m 15 j = nI (wd j)) (lwd : ∀ j, j < nw → wd j < 20) (hday : day < 20) (hk : k < 8) : fX6_owedOf_k tl nc nw cd cs wd m 2 0 = (nI (nS tl m)) := show (fX6_runsTold tl nc nw cd cs wd m) 2 0 = _ from gv_X6_runsTold_2 m tl nc nw cd cs wd htl ltl hnc (by omega) hnw (by omega) hcd lcd hcs lcs hwd lwd
theorem gv_X6_owedOf_k_6 (m : Mem) (day : Nat) (k : Nat) (tl : Nat → Nat) (nc : Nat) (nw : Nat) (cd : Nat → Nat) (cs : Nat → Nat) (wd : Nat → Nat) (htl : ∀ t, t < 2 → m 0 t = nI (tl t)) (ltl : ∀ t, tl t ≤ 31) (hnc : m 11 0 = nI nc) (lnc : nc ≤ 8) (hnw : m 14 0 = nI nw) (lnw : nw ≤ 6) (hcd : ∀ j, j < nc → m 12 j = nI (cd j)) (lcd : ∀ j, j < nc → cd j < 20) (hcs : ∀ j, j < nc → m 13 j = nI (cs j)) (lcs : ∀ j, j < nc → cs j < 8) (hwd : ∀ j, j < nw → m 15 j = nI (wd j)) (lwd : ∀ j, j < nw → wd j < 20) (hday : day < 20) (hk : k < 8) : fX6_owedOf_k tl nc nw cd cs wd m 6 0 = (nI (nP tl m)) := show (fX6_runsTold tl nc nw cd cs wd m) 6 0 = _ from gv_X6_runsTold_6 m tl nc nw cd cs wd htl ltl hnc (by omega) hnw (by omega) hcd lcd hcs lcs hwd lwd
set_option maxHeartbeats 4000000 in
set_option maxRecDepth 100000 in
theorem metX6_owedOf_k (l : Launch) (X : Mx) (m : Mem) (day : Nat) (k : Nat) (tl : Nat → Nat) (nc : Nat) (nw : Nat) (cd : Nat → Nat) (cs : Nat → Nat) (wd : Nat → Nat) (htl : ∀ t, t < 2 → m 0 t = nI (tl t)) (ltl : ∀ t, tl t ≤ 31) (hnc : m 11 0 = nI nc) (lnc : nc ≤ 8) (hnw : m 14 0 = nI nw) (lnw : nw ≤ 6) (hcd : ∀ j, j < nc → m 12 j = nI (cd j)) (lcd : ∀ j, j < nc → cd j < 20) (hcs : ∀ j, j < nc → m 13 j = nI (cs j)) (lcs : ∀ j, j < nc → cs j < 8) (hwd : ∀ j, j < nw → m 15 j = nI (wd j)) (lwd : ∀ j, j < nw → wd j < 20) (hday : day < 20) (hk : k < 8) : Cn l yX6_owedOf (ws_ yX6_owedOf cX6_owedOf 3 (some .int)) 9 0 0 [.ref (mx_ad X 40), .int (nI day), .int (nI k)] (PicM X) (KM X) (mx_A X) m (fun rv_ w_ => rv_ = some (.int (rX6_owedOf_k day k tl nc nw cd cs wd m)) ∧ w_ = (fX6_owedOf_k tl nc nw cd cs wd m)) := by
  refine cn_i (own := RX6) rfl (Nat.le_of_ble_eq_true rfl) rfl (fun g hgl hA F hret => ?_)
  refine Wd.eql (lv' := [(0, .ref (mx_ad X 40)), (1, .int (nI day)), (2, .int (nI k))]) rfl ?_
  refine ro_aload_n F dX6_owedOf_0 0 rfl ?_
  refine mo_cV (rest := []) F hA (metX6_runsTold (gx_l g) X m tl nc nw cd cs wd htl ltl hnc (by omega) hnw (by omega) hcd lcd hcs lcs hwd lwd) cwX6_207 hdX6_runsTold rfl (Nat.le_of_ble_eq_true rfl) (Nat.le_of_ble_eq_true rfl) (Nat.le_refl _) (Nat.le_refl _) rfl (Nat.le_of_ble_eq_true rfl) dX6_owedOf_1 ?_
  refine ro_iload_n F dX6_owedOf_4 2 rfl ?_
  refine ro_iconst (v := (-1)) F dX6_owedOf_5 (by decide) ?_
  refine ro_icmp_ne (tgt := 17) F dX6_owedOf_6 (by decide) (fun c6 => ?_) (fun c6 => absurd c6 (nI_ne1 (by omega)))
  refine ro_aload_n F dX6_owedOf_17 0 rfl ?_
  refine mo_gr F 20 (Nat.le_of_ble_eq_true rfl) (by decide) lkX6_50 rfl dX6_owedOf_18 ?_
  refine ro_bipush (v := (nI 20)) F dX6_owedOf_21 (by decide) ?_
  refine ro_iload_n F dX6_owedOf_23 2 rfl ?_
  refine ro_imulN F dX6_owedOf_24 ?_
  refine ro_iload_n F dX6_owedOf_25 1 rfl ?_
  refine ro_iaddN F dX6_owedOf_26 ?_
  refine mo_ldN F 20 160 rfl (by decide) (by decide) rfl (by omega) dX6_owedOf_27 rfl ?_
  exact hret _ _ _ _ _ _ (Nat.le_refl _) (Nat.le_refl _) dX6_owedOf_28 rfl ⟨congrArg (fun z => some (Value.int z)) (rfl), rfl⟩
noncomputable def rX6_heardOf (day : Nat) (k : Nat) (what : Int32) (tl : Nat → Nat) (nc : Nat) (nw : Nat) (cd : Nat → Nat) (cs : Nat → Nat) (wd : Nat → Nat) (m : Mem) : Int32 := (if what = 0 then ((fX6_runsTold tl nc nw cd cs wd m) 21 ((20 * k) + day)) else ((fX6_runsTold tl nc nw cd cs wd m) 22 ((20 * k) + day)))
noncomputable def fX6_heardOf (tl : Nat → Nat) (nc : Nat) (nw : Nat) (cd : Nat → Nat) (cs : Nat → Nat) (wd : Nat → Nat) (m : Mem) : Mem := (fX6_runsTold tl nc nw cd cs wd m)
theorem fr_fX6_heardOf (tl : Nat → Nat) (nc : Nat) (nw : Nat) (cd : Nat → Nat) (cs : Nat → Nat) (wd : Nat → Nat) (m : Mem) (f : Nat) (h2 : f ≠ 2) (h3 : f ≠ 3) (h4 : f ≠ 4) (h5 : f ≠ 5) (h6 : f ≠ 6) (h7 : f ≠ 7) (h8 : f ≠ 8) (h16 : f ≠ 16) (h17 : f ≠ 17) (h18 : f ≠ 18) (h19 : f ≠ 19) (h20 : f ≠ 20) (h21 : f ≠ 21) (h22 : f ≠ 22) (h23 : f ≠ 23) (h24 : f ≠ 24) (h25 : f ≠ 25) (h26 : f ≠ 26) (h27 : f ≠ 27) : fX6_heardOf tl nc nw cd cs wd m f = m f := (fr_fX6_runsTold tl nc nw cd cs wd m f h2 h3 h4 h5 h6 h7 h8 h16 h17 h18 h19 h20 h21 h22 h23 h24 h25 h26 h27).trans (rfl)
theorem gv_X6_heardOf_2 (m : Mem) (day : Nat) (k : Nat) (what : Int32) (tl : Nat → Nat) (nc : Nat) (nw : Nat) (cd : Nat → Nat) (cs : Nat → Nat) (wd : Nat → Nat) (htl : ∀ t, t < 2 → m 0 t = nI (tl t)) (ltl : ∀ t, tl t ≤ 31) (hnc : m 11 0 = nI nc) (lnc : nc ≤ 8) (hnw : m 14 0 = nI nw) (lnw : nw ≤ 6) (hcd : ∀ j, j < nc → m 12 j = nI (cd j)) (lcd : ∀ j, j < nc → cd j < 20) (hcs : ∀ j, j < nc → m 13 j = nI (cs j)) (lcs : ∀ j, j < nc → cs j < 8) (hwd : ∀ j, j < nw → m 15 j = nI (wd j)) (lwd : ∀ j, j < nw → wd j < 20) (hday : day < 20) (hk : k < 8) : fX6_heardOf tl nc nw cd cs wd m 2 0 = (nI (nS tl m)) := show (fX6_runsTold tl nc nw cd cs wd m) 2 0 = _ from gv_X6_runsTold_2 m tl nc nw cd cs wd htl ltl hnc (by omega) hnw (by omega) hcd lcd hcs lcs hwd lwd
theorem gv_X6_heardOf_6 (m : Mem) (day : Nat) (k : Nat) (what : Int32) (tl : Nat → Nat) (nc : Nat) (nw : Nat) (cd : Nat → Nat) (cs : Nat → Nat) (wd : Nat → Nat) (htl : ∀ t, t < 2 → m 0 t = nI (tl t)) (ltl : ∀ t, tl t ≤ 31) (hnc : m 11 0 = nI nc) (lnc : nc ≤ 8) (hnw : m 14 0 = nI nw) (lnw : nw ≤ 6) (hcd : ∀ j, j < nc → m 12 j = nI (cd j)) (lcd : ∀ j, j < nc → cd j < 20) (hcs : ∀ j, j < nc → m 13 j = nI (cs j)) (lcs : ∀ j, j < nc → cs j < 8) (hwd : ∀ j, j < nw → m 15 j = nI (wd j)) (lwd : ∀ j, j < nw → wd j < 20) (hday : day < 20) (hk : k < 8) : fX6_heardOf tl nc nw cd cs wd m 6 0 = (nI (nP tl m)) := show (fX6_runsTold tl nc nw cd cs wd m) 6 0 = _ from gv_X6_runsTold_6 m tl nc nw cd cs wd htl ltl hnc (by omega) hnw (by omega) hcd lcd hcs lcs hwd lwd
set_option maxHeartbeats 4000000 in
set_option maxRecDepth 100000 in
theorem metX6_heardOf (l : Launch) (X : Mx) (m : Mem) (day : Nat) (k : Nat) (what : Int32) (tl : Nat → Nat) (nc : Nat) (nw : Nat) (cd : Nat → Nat) (cs : Nat → Nat) (wd : Nat → Nat) (htl : ∀ t, t < 2 → m 0 t = nI (tl t)) (ltl : ∀ t, tl t ≤ 31) (hnc : m 11 0 = nI nc) (lnc : nc ≤ 8) (hnw : m 14 0 = nI nw) (lnw : nw ≤ 6) (hcd : ∀ j, j < nc → m 12 j = nI (cd j)) (lcd : ∀ j, j < nc → cd j < 20) (hcs : ∀ j, j < nc → m 13 j = nI (cs j)) (lcs : ∀ j, j < nc → cs j < 8) (hwd : ∀ j, j < nw → m 15 j = nI (wd j)) (lwd : ∀ j, j < nw → wd j < 20) (hday : day < 20) (hk : k < 8) : Cn l yX6_heardOf (ws_ yX6_heardOf cX6_heardOf 4 (some .int)) 9 0 0 [.ref (mx_ad X 40), .int (nI day), .int (nI k), .int what] (PicM X) (KM X) (mx_A X) m (fun rv_ w_ => rv_ = some (.int (rX6_heardOf day k what tl nc nw cd cs wd m)) ∧ w_ = (fX6_heardOf tl nc nw cd cs wd m)) := by
  refine cn_i (own := RX6) rfl (Nat.le_of_ble_eq_true rfl) rfl (fun g hgl hA F hret => ?_)
  refine Wd.eql (lv' := [(0, .ref (mx_ad X 40)), (1, .int (nI day)), (2, .int (nI k)), (3, .int what)]) rfl ?_
  refine ro_aload_n F dX6_heardOf_0 0 rfl ?_
  refine mo_cV (rest := []) F hA (metX6_runsTold (gx_l g) X m tl nc nw cd cs wd htl ltl hnc (by omega) hnw (by omega) hcd lcd hcs lcs hwd lwd) cwX6_207 hdX6_runsTold rfl (Nat.le_of_ble_eq_true rfl) (Nat.le_of_ble_eq_true rfl) (Nat.le_refl _) (Nat.le_refl _) rfl (Nat.le_of_ble_eq_true rfl) dX6_heardOf_1 ?_
  refine ro_iload_n F dX6_heardOf_4 3 rfl ?_
  have J33_5 : Wd (PicM X) g 4 (fX6_runsTold tl nc nw cd cs wd m) 0 0 33 [] [.int (if what = 0 then ((fX6_runsTold tl nc nw cd cs wd m) 21 ((20 * k) + day)) else ((fX6_runsTold tl nc nw cd cs wd m) 22 ((20 * k) + day)))] := by
    exact hret _ _ _ _ _ _ (Nat.le_refl _) (Nat.le_refl _) dX6_heardOf_33 rfl ⟨congrArg (fun z => some (Value.int z)) (rfl), rfl⟩
  refine ro_if_ne (tgt := 22) F dX6_heardOf_5 (by decide) (fun c5 => ?_) (fun c5 => ?_)
  · refine ro_aload_n F dX6_heardOf_22 0 rfl ?_
    refine mo_gr F 22 (Nat.le_of_ble_eq_true rfl) (by decide) lkX6_56 rfl dX6_heardOf_23 ?_
    refine ro_bipush (v := (nI 20)) F dX6_heardOf_26 (by decide) ?_
    refine ro_iload_n F dX6_heardOf_28 2 rfl ?_
    refine ro_imulN F dX6_heardOf_29 ?_
    refine ro_iload_n F dX6_heardOf_30 1 rfl ?_
    refine ro_iaddN F dX6_heardOf_31 ?_
    refine mo_ldN F 22 160 rfl (by decide) (by decide) rfl (by omega) dX6_heardOf_32 rfl ?_
    exact Wd.sub (lv' := []) [] rfl <| Wd.to J33_5 rfl rfl (congrArg (fun z => ([Value.int z] : List Value)) (by simp only [if_neg c5]))
  · refine ro_aload_n F dX6_heardOf_8 0 rfl ?_
    refine mo_gr F 21 (Nat.le_of_ble_eq_true rfl) (by decide) lkX6_53 rfl dX6_heardOf_9 ?_
    refine ro_bipush (v := (nI 20)) F dX6_heardOf_12 (by decide) ?_
    refine ro_iload_n F dX6_heardOf_14 2 rfl ?_
    refine ro_imulN F dX6_heardOf_15 ?_
    refine ro_iload_n F dX6_heardOf_16 1 rfl ?_
    refine ro_iaddN F dX6_heardOf_17 ?_
    refine mo_ldN F 21 160 rfl (by decide) (by decide) rfl (by omega) dX6_heardOf_18 rfl ?_
    refine ro_goto (tgt := 33) F dX6_heardOf_19 (by decide) ?_
    exact Wd.sub (lv' := []) [] rfl <| Wd.to J33_5 rfl rfl (congrArg (fun z => ([Value.int z] : List Value)) (by simp only [if_pos c5]))
noncomputable def rX6_leftOf (day : Nat) (p : Nat) (tl : Nat → Nat) (nc : Nat) (nw : Nat) (cd : Nat → Nat) (cs : Nat → Nat) (wd : Nat → Nat) (m : Mem) : Int32 := ((fX6_runsTold tl nc nw cd cs wd m) 24 ((20 * p) + day))
noncomputable def fX6_leftOf (tl : Nat → Nat) (nc : Nat) (nw : Nat) (cd : Nat → Nat) (cs : Nat → Nat) (wd : Nat → Nat) (m : Mem) : Mem := (fX6_runsTold tl nc nw cd cs wd m)
theorem fr_fX6_leftOf (tl : Nat → Nat) (nc : Nat) (nw : Nat) (cd : Nat → Nat) (cs : Nat → Nat) (wd : Nat → Nat) (m : Mem) (f : Nat) (h2 : f ≠ 2) (h3 : f ≠ 3) (h4 : f ≠ 4) (h5 : f ≠ 5) (h6 : f ≠ 6) (h7 : f ≠ 7) (h8 : f ≠ 8) (h16 : f ≠ 16) (h17 : f ≠ 17) (h18 : f ≠ 18) (h19 : f ≠ 19) (h20 : f ≠ 20) (h21 : f ≠ 21) (h22 : f ≠ 22) (h23 : f ≠ 23) (h24 : f ≠ 24) (h25 : f ≠ 25) (h26 : f ≠ 26) (h27 : f ≠ 27) : fX6_leftOf tl nc nw cd cs wd m f = m f := (fr_fX6_runsTold tl nc nw cd cs wd m f h2 h3 h4 h5 h6 h7 h8 h16 h17 h18 h19 h20 h21 h22 h23 h24 h25 h26 h27).trans (rfl)
theorem gv_X6_leftOf_2 (m : Mem) (day : Nat) (p : Nat) (tl : Nat → Nat) (nc : Nat) (nw : Nat) (cd : Nat → Nat) (cs : Nat → Nat) (wd : Nat → Nat) (htl : ∀ t, t < 2 → m 0 t = nI (tl t)) (ltl : ∀ t, tl t ≤ 31) (hnc : m 11 0 = nI nc) (lnc : nc ≤ 8) (hnw : m 14 0 = nI nw) (lnw : nw ≤ 6) (hcd : ∀ j, j < nc → m 12 j = nI (cd j)) (lcd : ∀ j, j < nc → cd j < 20) (hcs : ∀ j, j < nc → m 13 j = nI (cs j)) (lcs : ∀ j, j < nc → cs j < 8) (hwd : ∀ j, j < nw → m 15 j = nI (wd j)) (lwd : ∀ j, j < nw → wd j < 20) (hday : day < 20) (hp : p < 9) : fX6_leftOf tl nc nw cd cs wd m 2 0 = (nI (nS tl m)) := show (fX6_runsTold tl nc nw cd cs wd m) 2 0 = _ from gv_X6_runsTold_2 m tl nc nw cd cs wd htl ltl hnc (by omega) hnw (by omega) hcd lcd hcs lcs hwd lwd
theorem gv_X6_leftOf_6 (m : Mem) (day : Nat) (p : Nat) (tl : Nat → Nat) (nc : Nat) (nw : Nat) (cd : Nat → Nat) (cs : Nat → Nat) (wd : Nat → Nat) (htl : ∀ t, t < 2 → m 0 t = nI (tl t)) (ltl : ∀ t, tl t ≤ 31) (hnc : m 11 0 = nI nc) (lnc : nc ≤ 8) (hnw : m 14 0 = nI nw) (lnw : nw ≤ 6) (hcd : ∀ j, j < nc → m 12 j = nI (cd j)) (lcd : ∀ j, j < nc → cd j < 20) (hcs : ∀ j, j < nc → m 13 j = nI (cs j)) (lcs : ∀ j, j < nc → cs j < 8) (hwd : ∀ j, j < nw → m 15 j = nI (wd j)) (lwd : ∀ j, j < nw → wd j < 20) (hday : day < 20) (hp : p < 9) : fX6_leftOf tl nc nw cd cs wd m 6 0 = (nI (nP tl m)) := show (fX6_runsTold tl nc nw cd cs wd m) 6 0 = _ from gv_X6_runsTold_6 m tl nc nw cd cs wd htl ltl hnc (by omega) hnw (by omega) hcd lcd hcs lcs hwd lwd
set_option maxHeartbeats 4000000 in
set_option maxRecDepth 100000 in
theorem metX6_leftOf (l : Launch) (X : Mx) (m : Mem) (day : Nat) (p : Nat) (tl : Nat → Nat) (nc : Nat) (nw : Nat) (cd : Nat → Nat) (cs : Nat → Nat) (wd : Nat → Nat) (htl : ∀ t, t < 2 → m 0 t = nI (tl t)) (ltl : ∀ t, tl t ≤ 31) (hnc : m 11 0 = nI nc) (lnc : nc ≤ 8) (hnw : m 14 0 = nI nw) (lnw : nw ≤ 6) (hcd : ∀ j, j < nc → m 12 j = nI (cd j)) (lcd : ∀ j, j < nc → cd j < 20) (hcs : ∀ j, j < nc → m 13 j = nI (cs j)) (lcs : ∀ j, j < nc → cs j < 8) (hwd : ∀ j, j < nw → m 15 j = nI (wd j)) (lwd : ∀ j, j < nw → wd j < 20) (hday : day < 20) (hp : p < 9) : Cn l yX6_leftOf (ws_ yX6_leftOf cX6_leftOf 3 (some .int)) 9 0 0 [.ref (mx_ad X 40), .int (nI day), .int (nI p)] (PicM X) (KM X) (mx_A X) m (fun rv_ w_ => rv_ = some (.int (rX6_leftOf day p tl nc nw cd cs wd m)) ∧ w_ = (fX6_leftOf tl nc nw cd cs wd m)) := by
  refine cn_i (own := RX6) rfl (Nat.le_of_ble_eq_true rfl) rfl (fun g hgl hA F hret => ?_)
  refine Wd.eql (lv' := [(0, .ref (mx_ad X 40)), (1, .int (nI day)), (2, .int (nI p))]) rfl ?_
  refine ro_aload_n F dX6_leftOf_0 0 rfl ?_
  refine mo_cV (rest := []) F hA (metX6_runsTold (gx_l g) X m tl nc nw cd cs wd htl ltl hnc (by omega) hnw (by omega) hcd lcd hcs lcs hwd lwd) cwX6_207 hdX6_runsTold rfl (Nat.le_of_ble_eq_true rfl) (Nat.le_of_ble_eq_true rfl) (Nat.le_refl _) (Nat.le_refl _) rfl (Nat.le_of_ble_eq_true rfl) dX6_leftOf_1 ?_
  refine ro_aload_n F dX6_leftOf_4 0 rfl ?_
  refine mo_gr F 24 (Nat.le_of_ble_eq_true rfl) (by decide) lkX6_62 rfl dX6_leftOf_5 ?_
  refine ro_bipush (v := (nI 20)) F dX6_leftOf_8 (by decide) ?_
  refine ro_iload_n F dX6_leftOf_10 2 rfl ?_
  refine ro_imulN F dX6_leftOf_11 ?_
  refine ro_iload_n F dX6_leftOf_12 1 rfl ?_
  refine ro_iaddN F dX6_leftOf_13 ?_
  refine mo_ldN F 24 180 rfl (by decide) (by decide) rfl (by omega) dX6_leftOf_14 rfl ?_
  exact hret _ _ _ _ _ _ (Nat.le_refl _) (Nat.le_refl _) dX6_leftOf_15 rfl ⟨congrArg (fun z => some (Value.int z)) (rfl), rfl⟩
noncomputable def rX6_runOf (tl : Nat → Nat) (nc : Nat) (nw : Nat) (cd : Nat → Nat) (cs : Nat → Nat) (wd : Nat → Nat) (m : Mem) : Int32 := ((fX6_runsTold tl nc nw cd cs wd m) 25 0)
noncomputable def fX6_runOf (tl : Nat → Nat) (nc : Nat) (nw : Nat) (cd : Nat → Nat) (cs : Nat → Nat) (wd : Nat → Nat) (m : Mem) : Mem := (fX6_runsTold tl nc nw cd cs wd m)
theorem fr_fX6_runOf (tl : Nat → Nat) (nc : Nat) (nw : Nat) (cd : Nat → Nat) (cs : Nat → Nat) (wd : Nat → Nat) (m : Mem) (f : Nat) (h2 : f ≠ 2) (h3 : f ≠ 3) (h4 : f ≠ 4) (h5 : f ≠ 5) (h6 : f ≠ 6) (h7 : f ≠ 7) (h8 : f ≠ 8) (h16 : f ≠ 16) (h17 : f ≠ 17) (h18 : f ≠ 18) (h19 : f ≠ 19) (h20 : f ≠ 20) (h21 : f ≠ 21) (h22 : f ≠ 22) (h23 : f ≠ 23) (h24 : f ≠ 24) (h25 : f ≠ 25) (h26 : f ≠ 26) (h27 : f ≠ 27) : fX6_runOf tl nc nw cd cs wd m f = m f := (fr_fX6_runsTold tl nc nw cd cs wd m f h2 h3 h4 h5 h6 h7 h8 h16 h17 h18 h19 h20 h21 h22 h23 h24 h25 h26 h27).trans (rfl)
theorem gv_X6_runOf_2 (m : Mem)  (tl : Nat → Nat) (nc : Nat) (nw : Nat) (cd : Nat → Nat) (cs : Nat → Nat) (wd : Nat → Nat) (htl : ∀ t, t < 2 → m 0 t = nI (tl t)) (ltl : ∀ t, tl t ≤ 31) (hnc : m 11 0 = nI nc) (lnc : nc ≤ 8) (hnw : m 14 0 = nI nw) (lnw : nw ≤ 6) (hcd : ∀ j, j < nc → m 12 j = nI (cd j)) (lcd : ∀ j, j < nc → cd j < 20) (hcs : ∀ j, j < nc → m 13 j = nI (cs j)) (lcs : ∀ j, j < nc → cs j < 8) (hwd : ∀ j, j < nw → m 15 j = nI (wd j)) (lwd : ∀ j, j < nw → wd j < 20) : fX6_runOf tl nc nw cd cs wd m 2 0 = (nI (nS tl m)) := show (fX6_runsTold tl nc nw cd cs wd m) 2 0 = _ from gv_X6_runsTold_2 m tl nc nw cd cs wd htl ltl hnc (by omega) hnw (by omega) hcd lcd hcs lcs hwd lwd
theorem gv_X6_runOf_6 (m : Mem)  (tl : Nat → Nat) (nc : Nat) (nw : Nat) (cd : Nat → Nat) (cs : Nat → Nat) (wd : Nat → Nat) (htl : ∀ t, t < 2 → m 0 t = nI (tl t)) (ltl : ∀ t, tl t ≤ 31) (hnc : m 11 0 = nI nc) (lnc : nc ≤ 8) (hnw : m 14 0 = nI nw) (lnw : nw ≤ 6) (hcd : ∀ j, j < nc → m 12 j = nI (cd j)) (lcd : ∀ j, j < nc → cd j < 20) (hcs : ∀ j, j < nc → m 13 j = nI (cs j)) (lcs : ∀ j, j < nc → cs j < 8) (hwd : ∀ j, j < nw → m 15 j = nI (wd j)) (lwd : ∀ j, j < nw → wd j < 20) : fX6_runOf tl nc nw cd cs wd m 6 0 = (nI (nP tl m)) := show (fX6_runsTold tl nc nw cd cs wd m) 6 0 = _ from gv_X6_runsTold_6 m tl nc nw cd cs wd htl ltl hnc (by omega) hnw (by omega) hcd lcd hcs lcs hwd lwd
set_option maxHeartbeats 4000000 in
set_option maxRecDepth 100000 in
theorem metX6_runOf (l : Launch) (X : Mx) (m : Mem)  (tl : Nat → Nat) (nc : Nat) (nw : Nat) (cd : Nat → Nat) (cs : Nat → Nat) (wd : Nat → Nat) (htl : ∀ t, t < 2 → m 0 t = nI (tl t)) (ltl : ∀ t, tl t ≤ 31) (hnc : m 11 0 = nI nc) (lnc : nc ≤ 8) (hnw : m 14 0 = nI nw) (lnw : nw ≤ 6) (hcd : ∀ j, j < nc → m 12 j = nI (cd j)) (lcd : ∀ j, j < nc → cd j < 20) (hcs : ∀ j, j < nc → m 13 j = nI (cs j)) (lcs : ∀ j, j < nc → cs j < 8) (hwd : ∀ j, j < nw → m 15 j = nI (wd j)) (lwd : ∀ j, j < nw → wd j < 20) : Cn l yX6_runOf (ws_ yX6_runOf cX6_runOf 1 (some .int)) 9 0 0 [.ref (mx_ad X 40)] (PicM X) (KM X) (mx_A X) m (fun rv_ w_ => rv_ = some (.int (rX6_runOf tl nc nw cd cs wd m)) ∧ w_ = (fX6_runOf tl nc nw cd cs wd m)) := by
  refine cn_i (own := RX6) rfl (Nat.le_of_ble_eq_true rfl) rfl (fun g hgl hA F hret => ?_)
  refine Wd.eql (lv' := [(0, .ref (mx_ad X 40))]) rfl ?_
  refine ro_aload_n F dX6_runOf_0 0 rfl ?_
  refine mo_cV (rest := []) F hA (metX6_runsTold (gx_l g) X m tl nc nw cd cs wd htl ltl hnc (by omega) hnw (by omega) hcd lcd hcs lcs hwd lwd) cwX6_207 hdX6_runsTold rfl (Nat.le_of_ble_eq_true rfl) (Nat.le_of_ble_eq_true rfl) (Nat.le_refl _) (Nat.le_refl _) rfl (Nat.le_of_ble_eq_true rfl) dX6_runOf_1 ?_
  refine ro_aload_n F dX6_runOf_4 0 rfl ?_
  refine mo_gi F 25 (Nat.le_of_ble_eq_true rfl) rfl lkX6_191 rfl dX6_runOf_5 rfl ?_
  exact hret _ _ _ _ _ _ (Nat.le_refl _) (Nat.le_refl _) dX6_runOf_8 rfl ⟨congrArg (fun z => some (Value.int z)) (rfl), rfl⟩
noncomputable def rX6_run (tl : Nat → Nat) (nc : Nat) (nw : Nat) (cd : Nat → Nat) (cs : Nat → Nat) (wd : Nat → Nat) (m : Mem) : Int32 := (rX6_runOf tl nc nw cd cs wd m)
noncomputable def fX6_run (tl : Nat → Nat) (nc : Nat) (nw : Nat) (cd : Nat → Nat) (cs : Nat → Nat) (wd : Nat → Nat) (m : Mem) : Mem := (fX6_runOf tl nc nw cd cs wd m)
theorem fr_fX6_run (tl : Nat → Nat) (nc : Nat) (nw : Nat) (cd : Nat → Nat) (cs : Nat → Nat) (wd : Nat → Nat) (m : Mem) (f : Nat) (h2 : f ≠ 2) (h3 : f ≠ 3) (h4 : f ≠ 4) (h5 : f ≠ 5) (h6 : f ≠ 6) (h7 : f ≠ 7) (h8 : f ≠ 8) (h16 : f ≠ 16) (h17 : f ≠ 17) (h18 : f ≠ 18) (h19 : f ≠ 19) (h20 : f ≠ 20) (h21 : f ≠ 21) (h22 : f ≠ 22) (h23 : f ≠ 23) (h24 : f ≠ 24) (h25 : f ≠ 25) (h26 : f ≠ 26) (h27 : f ≠ 27) : fX6_run tl nc nw cd cs wd m f = m f := (fr_fX6_runOf tl nc nw cd cs wd m f h2 h3 h4 h5 h6 h7 h8 h16 h17 h18 h19 h20 h21 h22 h23 h24 h25 h26 h27).trans (rfl)
set_option maxHeartbeats 4000000 in
set_option maxRecDepth 100000 in
theorem metX6_run (l : Launch) (X : Mx) (m : Mem)  (tl : Nat → Nat) (nc : Nat) (nw : Nat) (cd : Nat → Nat) (cs : Nat → Nat) (wd : Nat → Nat) (htl : ∀ t, t < 2 → m 0 t = nI (tl t)) (ltl : ∀ t, tl t ≤ 31) (hnc : m 11 0 = nI nc) (lnc : nc ≤ 8) (hnw : m 14 0 = nI nw) (lnw : nw ≤ 6) (hcd : ∀ j, j < nc → m 12 j = nI (cd j)) (lcd : ∀ j, j < nc → cd j < 20) (hcs : ∀ j, j < nc → m 13 j = nI (cs j)) (lcs : ∀ j, j < nc → cs j < 8) (hwd : ∀ j, j < nw → m 15 j = nI (wd j)) (lwd : ∀ j, j < nw → wd j < 20) : Cn l yX6_run (ws_ yX6_run cX6_run 1 (some .int)) 10 0 0 [.ref (mx_ad X 40)] (PicM X) (KM X) (mx_A X) m (fun rv_ w_ => rv_ = some (.int (rX6_run tl nc nw cd cs wd m)) ∧ w_ = (fX6_run tl nc nw cd cs wd m)) := by
  refine cn_i (own := RX6) rfl (Nat.le_of_ble_eq_true rfl) rfl (fun g hgl hA F hret => ?_)
  refine Wd.eql (lv' := [(0, .ref (mx_ad X 40))]) rfl ?_
  refine ro_aload_n F dX6_run_0 0 rfl ?_
  refine mo_cV (rest := []) F hA (metX6_runOf (gx_l g) X m tl nc nw cd cs wd htl ltl hnc (by omega) hnw (by omega) hcd lcd hcs lcs hwd lwd) cwX6_223 hdX6_runOf rfl (Nat.le_of_ble_eq_true rfl) (Nat.le_of_ble_eq_true rfl) (Nat.le_refl _) (Nat.le_refl _) rfl (Nat.le_of_ble_eq_true rfl) dX6_run_1 ?_
  exact hret _ _ _ _ _ _ (Nat.le_refl _) (Nat.le_refl _) dX6_run_4 rfl ⟨congrArg (fun z => some (Value.int z)) (rfl), rfl⟩
noncomputable def rX6_yawnOf (what : Int32) (tl : Nat → Nat) (nc : Nat) (nw : Nat) (cd : Nat → Nat) (cs : Nat → Nat) (wd : Nat → Nat) (m : Mem) : Int32 := (if what = 0 then ((fX6_runsTold tl nc nw cd cs wd m) 26 0) else ((fX6_runsTold tl nc nw cd cs wd m) 27 0))
noncomputable def fX6_yawnOf (tl : Nat → Nat) (nc : Nat) (nw : Nat) (cd : Nat → Nat) (cs : Nat → Nat) (wd : Nat → Nat) (m : Mem) : Mem := (fX6_runsTold tl nc nw cd cs wd m)
theorem fr_fX6_yawnOf (tl : Nat → Nat) (nc : Nat) (nw : Nat) (cd : Nat → Nat) (cs : Nat → Nat) (wd : Nat → Nat) (m : Mem) (f : Nat) (h2 : f ≠ 2) (h3 : f ≠ 3) (h4 : f ≠ 4) (h5 : f ≠ 5) (h6 : f ≠ 6) (h7 : f ≠ 7) (h8 : f ≠ 8) (h16 : f ≠ 16) (h17 : f ≠ 17) (h18 : f ≠ 18) (h19 : f ≠ 19) (h20 : f ≠ 20) (h21 : f ≠ 21) (h22 : f ≠ 22) (h23 : f ≠ 23) (h24 : f ≠ 24) (h25 : f ≠ 25) (h26 : f ≠ 26) (h27 : f ≠ 27) : fX6_yawnOf tl nc nw cd cs wd m f = m f := (fr_fX6_runsTold tl nc nw cd cs wd m f h2 h3 h4 h5 h6 h7 h8 h16 h17 h18 h19 h20 h21 h22 h23 h24 h25 h26 h27).trans (rfl)
theorem gv_X6_yawnOf_2 (m : Mem) (what : Int32) (tl : Nat → Nat) (nc : Nat) (nw : Nat) (cd : Nat → Nat) (cs : Nat → Nat) (wd : Nat → Nat) (htl : ∀ t, t < 2 → m 0 t = nI (tl t)) (ltl : ∀ t, tl t ≤ 31) (hnc : m 11 0 = nI nc) (lnc : nc ≤ 8) (hnw : m 14 0 = nI nw) (lnw : nw ≤ 6) (hcd : ∀ j, j < nc → m 12 j = nI (cd j)) (lcd : ∀ j, j < nc → cd j < 20) (hcs : ∀ j, j < nc → m 13 j = nI (cs j)) (lcs : ∀ j, j < nc → cs j < 8) (hwd : ∀ j, j < nw → m 15 j = nI (wd j)) (lwd : ∀ j, j < nw → wd j < 20) : fX6_yawnOf tl nc nw cd cs wd m 2 0 = (nI (nS tl m)) := show (fX6_runsTold tl nc nw cd cs wd m) 2 0 = _ from gv_X6_runsTold_2 m tl nc nw cd cs wd htl ltl hnc (by omega) hnw (by omega) hcd lcd hcs lcs hwd lwd
theorem gv_X6_yawnOf_6 (m : Mem) (what : Int32) (tl : Nat → Nat) (nc : Nat) (nw : Nat) (cd : Nat → Nat) (cs : Nat → Nat) (wd : Nat → Nat) (htl : ∀ t, t < 2 → m 0 t = nI (tl t)) (ltl : ∀ t, tl t ≤ 31) (hnc : m 11 0 = nI nc) (lnc : nc ≤ 8) (hnw : m 14 0 = nI nw) (lnw : nw ≤ 6) (hcd : ∀ j, j < nc → m 12 j = nI (cd j)) (lcd : ∀ j, j < nc → cd j < 20) (hcs : ∀ j, j < nc → m 13 j = nI (cs j)) (lcs : ∀ j, j < nc → cs j < 8) (hwd : ∀ j, j < nw → m 15 j = nI (wd j)) (lwd : ∀ j, j < nw → wd j < 20) : fX6_yawnOf tl nc nw cd cs wd m 6 0 = (nI (nP tl m)) := show (fX6_runsTold tl nc nw cd cs wd m) 6 0 = _ from gv_X6_runsTold_6 m tl nc nw cd cs wd htl ltl hnc (by omega) hnw (by omega) hcd lcd hcs lcs hwd lwd
set_option maxHeartbeats 4000000 in
set_option maxRecDepth 100000 in
theorem metX6_yawnOf (l : Launch) (X : Mx) (m : Mem) (what : Int32) (tl : Nat → Nat) (nc : Nat) (nw : Nat) (cd : Nat → Nat) (cs : Nat → Nat) (wd : Nat → Nat) (htl : ∀ t, t < 2 → m 0 t = nI (tl t)) (ltl : ∀ t, tl t ≤ 31) (hnc : m 11 0 = nI nc) (lnc : nc ≤ 8) (hnw : m 14 0 = nI nw) (lnw : nw ≤ 6) (hcd : ∀ j, j < nc → m 12 j = nI (cd j)) (lcd : ∀ j, j < nc → cd j < 20) (hcs : ∀ j, j < nc → m 13 j = nI (cs j)) (lcs : ∀ j, j < nc → cs j < 8) (hwd : ∀ j, j < nw → m 15 j = nI (wd j)) (lwd : ∀ j, j < nw → wd j < 20) : Cn l yX6_yawnOf (ws_ yX6_yawnOf cX6_yawnOf 2 (some .int)) 9 0 0 [.ref (mx_ad X 40), .int what] (PicM X) (KM X) (mx_A X) m (fun rv_ w_ => rv_ = some (.int (rX6_yawnOf what tl nc nw cd cs wd m)) ∧ w_ = (fX6_yawnOf tl nc nw cd cs wd m)) := by
  refine cn_i (own := RX6) rfl (Nat.le_of_ble_eq_true rfl) rfl (fun g hgl hA F hret => ?_)
  refine Wd.eql (lv' := [(0, .ref (mx_ad X 40)), (1, .int what)]) rfl ?_
  refine ro_aload_n F dX6_yawnOf_0 0 rfl ?_
  refine mo_cV (rest := []) F hA (metX6_runsTold (gx_l g) X m tl nc nw cd cs wd htl ltl hnc (by omega) hnw (by omega) hcd lcd hcs lcs hwd lwd) cwX6_207 hdX6_runsTold rfl (Nat.le_of_ble_eq_true rfl) (Nat.le_of_ble_eq_true rfl) (Nat.le_refl _) (Nat.le_refl _) rfl (Nat.le_of_ble_eq_true rfl) dX6_yawnOf_1 ?_
  refine ro_iload_n F dX6_yawnOf_4 1 rfl ?_
  have J19_5 : Wd (PicM X) g 2 (fX6_runsTold tl nc nw cd cs wd m) 0 0 19 [] [.int (if what = 0 then ((fX6_runsTold tl nc nw cd cs wd m) 26 0) else ((fX6_runsTold tl nc nw cd cs wd m) 27 0))] := by
    exact hret _ _ _ _ _ _ (Nat.le_refl _) (Nat.le_refl _) dX6_yawnOf_19 rfl ⟨congrArg (fun z => some (Value.int z)) (rfl), rfl⟩
  refine ro_if_ne (tgt := 15) F dX6_yawnOf_5 (by decide) (fun c5 => ?_) (fun c5 => ?_)
  · refine ro_aload_n F dX6_yawnOf_15 0 rfl ?_
    refine mo_gi F 27 (Nat.le_of_ble_eq_true rfl) rfl lkX6_188 rfl dX6_yawnOf_16 rfl ?_
    exact Wd.sub (lv' := []) [] rfl <| Wd.to J19_5 rfl rfl (congrArg (fun z => ([Value.int z] : List Value)) (by simp only [if_neg c5]))
  · refine ro_aload_n F dX6_yawnOf_8 0 rfl ?_
    refine mo_gi F 26 (Nat.le_of_ble_eq_true rfl) rfl lkX6_185 rfl dX6_yawnOf_9 rfl ?_
    refine ro_goto (tgt := 19) F dX6_yawnOf_12 (by decide) ?_
    exact Wd.sub (lv' := []) [] rfl <| Wd.to J19_5 rfl rfl (congrArg (fun z => ([Value.int z] : List Value)) (by simp only [if_pos c5]))
noncomputable def rX6_yawn (what : Int32) (tl : Nat → Nat) (nc : Nat) (nw : Nat) (cd : Nat → Nat) (cs : Nat → Nat) (wd : Nat → Nat) (m : Mem) : Int32 := (if ¬ (what < (nI 0)) ∧ (¬ ((nI 1) < what)) then (rX6_yawnOf what tl nc nw cd cs wd m) else (-2))
noncomputable def fX6_yawn (what : Int32) (tl : Nat → Nat) (nc : Nat) (nw : Nat) (cd : Nat → Nat) (cs : Nat → Nat) (wd : Nat → Nat) (m : Mem) : Mem := (if ¬ (what < (nI 0)) ∧ (¬ ((nI 1) < what)) then (fX6_yawnOf tl nc nw cd cs wd m) else m)
theorem fr_fX6_yawn (what : Int32) (tl : Nat → Nat) (nc : Nat) (nw : Nat) (cd : Nat → Nat) (cs : Nat → Nat) (wd : Nat → Nat) (m : Mem) (f : Nat) (h2 : f ≠ 2) (h3 : f ≠ 3) (h4 : f ≠ 4) (h5 : f ≠ 5) (h6 : f ≠ 6) (h7 : f ≠ 7) (h8 : f ≠ 8) (h16 : f ≠ 16) (h17 : f ≠ 17) (h18 : f ≠ 18) (h19 : f ≠ 19) (h20 : f ≠ 20) (h21 : f ≠ 21) (h22 : f ≠ 22) (h23 : f ≠ 23) (h24 : f ≠ 24) (h25 : f ≠ 25) (h26 : f ≠ 26) (h27 : f ≠ 27) : fX6_yawn what tl nc nw cd cs wd m f = m f := ite_fr ((fr_fX6_yawnOf tl nc nw cd cs wd m f h2 h3 h4 h5 h6 h7 h8 h16 h17 h18 h19 h20 h21 h22 h23 h24 h25 h26 h27).trans (rfl)) (rfl)
set_option maxHeartbeats 4000000 in
set_option maxRecDepth 100000 in
theorem metX6_yawn (l : Launch) (X : Mx) (m : Mem) (what : Int32) (tl : Nat → Nat) (nc : Nat) (nw : Nat) (cd : Nat → Nat) (cs : Nat → Nat) (wd : Nat → Nat) (htl : ∀ t, t < 2 → m 0 t = nI (tl t)) (ltl : ∀ t, tl t ≤ 31) (hnc : m 11 0 = nI nc) (lnc : nc ≤ 8) (hnw : m 14 0 = nI nw) (lnw : nw ≤ 6) (hcd : ∀ j, j < nc → m 12 j = nI (cd j)) (lcd : ∀ j, j < nc → cd j < 20) (hcs : ∀ j, j < nc → m 13 j = nI (cs j)) (lcs : ∀ j, j < nc → cs j < 8) (hwd : ∀ j, j < nw → m 15 j = nI (wd j)) (lwd : ∀ j, j < nw → wd j < 20) : Cn l yX6_yawn (ws_ yX6_yawn cX6_yawn 2 (some .int)) 10 0 0 [.ref (mx_ad X 40), .int what] (PicM X) (KM X) (mx_A X) m (fun rv_ w_ => rv_ = some (.int (rX6_yawn what tl nc nw cd cs wd m)) ∧ w_ = (fX6_yawn what tl nc nw cd cs wd m)) := by
  refine cn_i (own := RX6) rfl (Nat.le_of_ble_eq_true rfl) rfl (fun g hgl hA F hret => ?_)
  refine Wd.eql (lv' := [(0, .ref (mx_ad X 40)), (1, .int what)]) rfl ?_
  refine ro_iload_n F dX6_yawn_0 1 rfl ?_
  refine ro_iconst (v := (nI 0)) F dX6_yawn_1 (by decide) ?_
  refine ro_iconst (v := (nI 1)) F dX6_yawn_2 (by decide) ?_
  refine mo_cS (rest := []) F hA (metX6_in (gx_l g) X m what (nI 0) (nI 1) ) cwX6_104 hdX6_in rfl (Nat.le_of_ble_eq_true rfl) (Nat.le_of_ble_eq_true rfl) (Nat.le_refl _) (Nat.le_refl _) rfl (Nat.le_of_ble_eq_true rfl) dX6_yawn_3 ?_
  have J19_6 : Wd (PicM X) g 2 (if ¬ (what < (nI 0)) ∧ (¬ ((nI 1) < what)) then (fX6_yawnOf tl nc nw cd cs wd m) else m) 0 0 19 [] [.int (if ¬ (what < (nI 0)) ∧ (¬ ((nI 1) < what)) then (rX6_yawnOf what tl nc nw cd cs wd m) else (-2))] := by
    exact hret _ _ _ _ _ _ (Nat.le_refl _) (Nat.le_refl _) dX6_yawn_19 rfl ⟨congrArg (fun z => some (Value.int z)) (rfl), rfl⟩
  refine ro_if_eqB (tgt := 17) F dX6_yawn_6 (by decide) (fun c6 => ?_) (fun c6 => ?_)
  · refine ro_bipush (v := (-2)) F dX6_yawn_17 (by decide) ?_
    exact Wd.sub (lv' := []) [] rfl <| Wd.to J19_6 (by simp only [if_neg c6]) rfl (congrArg (fun z => ([Value.int z] : List Value)) (by simp only [if_neg c6]))
  · refine ro_aload_n F dX6_yawn_9 0 rfl ?_
    refine ro_iload_n F dX6_yawn_10 1 rfl ?_
    refine mo_cV (rest := []) F hA (metX6_yawnOf (gx_l g) X m what tl nc nw cd cs wd htl ltl hnc (by omega) hnw (by omega) hcd lcd hcs lcs hwd lwd) cwX6_227 hdX6_yawnOf rfl (Nat.le_of_ble_eq_true rfl) (Nat.le_of_ble_eq_true rfl) (Nat.le_refl _) (Nat.le_refl _) rfl (Nat.le_of_ble_eq_true rfl) dX6_yawn_11 ?_
    refine ro_goto (tgt := 19) F dX6_yawn_14 (by decide) ?_
    exact Wd.sub (lv' := []) [] rfl <| Wd.to J19_6 (by simp only [if_pos c6]) rfl (congrArg (fun z => ([Value.int z] : List Value)) (by simp only [if_pos c6]))
noncomputable def rX6_owed_all (day : Nat) (tl : Nat → Nat) (nc : Nat) (nw : Nat) (cd : Nat → Nat) (cs : Nat → Nat) (wd : Nat → Nat) (m : Mem) : Int32 := (rX6_owedOf_all day tl nc nw cd cs wd m)
noncomputable def fX6_owed_all (tl : Nat → Nat) (nc : Nat) (nw : Nat) (cd : Nat → Nat) (cs : Nat → Nat) (wd : Nat → Nat) (m : Mem) : Mem := (fX6_owedOf_all tl nc nw cd cs wd m)
theorem fr_fX6_owed_all (tl : Nat → Nat) (nc : Nat) (nw : Nat) (cd : Nat → Nat) (cs : Nat → Nat) (wd : Nat → Nat) (m : Mem) (f : Nat) (h2 : f ≠ 2) (h3 : f ≠ 3) (h4 : f ≠ 4) (h5 : f ≠ 5) (h6 : f ≠ 6) (h7 : f ≠ 7) (h8 : f ≠ 8) (h16 : f ≠ 16) (h17 : f ≠ 17) (h18 : f ≠ 18) (h19 : f ≠ 19) (h20 : f ≠ 20) (h21 : f ≠ 21) (h22 : f ≠ 22) (h23 : f ≠ 23) (h24 : f ≠ 24) (h25 : f ≠ 25) (h26 : f ≠ 26) (h27 : f ≠ 27) : fX6_owed_all tl nc nw cd cs wd m f = m f := (fr_fX6_owedOf_all tl nc nw cd cs wd m f h2 h3 h4 h5 h6 h7 h8 h16 h17 h18 h19 h20 h21 h22 h23 h24 h25 h26 h27).trans (rfl)
set_option maxHeartbeats 4000000 in
set_option maxRecDepth 100000 in
theorem metX6_owed_all (l : Launch) (X : Mx) (m : Mem) (day : Nat) (tl : Nat → Nat) (nc : Nat) (nw : Nat) (cd : Nat → Nat) (cs : Nat → Nat) (wd : Nat → Nat) (htl : ∀ t, t < 2 → m 0 t = nI (tl t)) (ltl : ∀ t, tl t ≤ 31) (hnc : m 11 0 = nI nc) (lnc : nc ≤ 8) (hnw : m 14 0 = nI nw) (lnw : nw ≤ 6) (hcd : ∀ j, j < nc → m 12 j = nI (cd j)) (lcd : ∀ j, j < nc → cd j < 20) (hcs : ∀ j, j < nc → m 13 j = nI (cs j)) (lcs : ∀ j, j < nc → cs j < 8) (hwd : ∀ j, j < nw → m 15 j = nI (wd j)) (lwd : ∀ j, j < nw → wd j < 20) (hday : day < 20) : Cn l yX6_owed (ws_ yX6_owed cX6_owed 3 (some .int)) 10 0 0 [.ref (mx_ad X 40), .int (nI day), .int (-1)] (PicM X) (KM X) (mx_A X) m (fun rv_ w_ => rv_ = some (.int (rX6_owed_all day tl nc nw cd cs wd m)) ∧ w_ = (fX6_owed_all tl nc nw cd cs wd m)) := by
  refine cn_i (own := RX6) rfl (Nat.le_of_ble_eq_true rfl) rfl (fun g hgl hA F hret => ?_)
  refine Wd.eql (lv' := [(0, .ref (mx_ad X 40)), (1, .int (nI day)), (2, .int (-1))]) rfl ?_
  refine ro_iload_n F dX6_owed_0 1 rfl ?_
  refine mo_cS (rest := []) F hA (metX6_isDay (gx_l g) X m (nI day) ) cwX6_153 hdX6_isDay rfl (Nat.le_of_ble_eq_true rfl) (Nat.le_of_ble_eq_true rfl) (Nat.le_refl _) (Nat.le_refl _) rfl (Nat.le_of_ble_eq_true rfl) dX6_owed_1 ?_
  refine ro_if_eqB (tgt := 29) F dX6_owed_4 (by decide) (fun c4 => absurd (in_ok (by omega) (by omega) (by decide)) c4) (fun c4 => ?_)
  refine ro_iload_n F dX6_owed_7 2 rfl ?_
  refine ro_iconst (v := (-1)) F dX6_owed_8 (by decide) ?_
  refine ro_icmp_eq (tgt := 20) F dX6_owed_9 (by decide) (fun c9 => ?_) (fun c9 => absurd rfl c9)
  refine ro_aload_n F dX6_owed_20 0 rfl ?_
  refine ro_iload_n F dX6_owed_21 1 rfl ?_
  refine ro_iload_n F dX6_owed_22 2 rfl ?_
  refine mo_cV (rest := []) F hA (metX6_owedOf_all (gx_l g) X m day tl nc nw cd cs wd htl ltl hnc (by omega) hnw (by omega) hcd lcd hcs lcs hwd lwd (by omega)) cwX6_213 hdX6_owedOf rfl (Nat.le_of_ble_eq_true rfl) (Nat.le_of_ble_eq_true rfl) (Nat.le_refl _) (Nat.le_refl _) rfl (Nat.le_of_ble_eq_true rfl) dX6_owed_23 ?_
  refine ro_goto (tgt := 31) F dX6_owed_26 (by decide) ?_
  exact hret _ _ _ _ _ _ (Nat.le_refl _) (Nat.le_refl _) dX6_owed_31 rfl ⟨congrArg (fun z => some (Value.int z)) (rfl), rfl⟩
noncomputable def rX6_owed_k (day : Nat) (k : Nat) (tl : Nat → Nat) (nc : Nat) (nw : Nat) (cd : Nat → Nat) (cs : Nat → Nat) (wd : Nat → Nat) (m : Mem) : Int32 := (rX6_owedOf_k day k tl nc nw cd cs wd (fX6_isSaver tl m))
noncomputable def fX6_owed_k (tl : Nat → Nat) (nc : Nat) (nw : Nat) (cd : Nat → Nat) (cs : Nat → Nat) (wd : Nat → Nat) (m : Mem) : Mem := (fX6_owedOf_k tl nc nw cd cs wd (fX6_isSaver tl m))
theorem fr_fX6_owed_k (tl : Nat → Nat) (nc : Nat) (nw : Nat) (cd : Nat → Nat) (cs : Nat → Nat) (wd : Nat → Nat) (m : Mem) (f : Nat) (h2 : f ≠ 2) (h3 : f ≠ 3) (h4 : f ≠ 4) (h5 : f ≠ 5) (h6 : f ≠ 6) (h7 : f ≠ 7) (h8 : f ≠ 8) (h16 : f ≠ 16) (h17 : f ≠ 17) (h18 : f ≠ 18) (h19 : f ≠ 19) (h20 : f ≠ 20) (h21 : f ≠ 21) (h22 : f ≠ 22) (h23 : f ≠ 23) (h24 : f ≠ 24) (h25 : f ≠ 25) (h26 : f ≠ 26) (h27 : f ≠ 27) : fX6_owed_k tl nc nw cd cs wd m f = m f := (fr_fX6_owedOf_k tl nc nw cd cs wd (fX6_isSaver tl m) f h2 h3 h4 h5 h6 h7 h8 h16 h17 h18 h19 h20 h21 h22 h23 h24 h25 h26 h27).trans ((fr_fX6_isSaver tl m f h2 h3 h4 h5 h6 h7 h8).trans (rfl))
set_option maxHeartbeats 4000000 in
set_option maxRecDepth 100000 in
theorem metX6_owed_k (l : Launch) (X : Mx) (m : Mem) (day : Nat) (k : Nat) (tl : Nat → Nat) (nc : Nat) (nw : Nat) (cd : Nat → Nat) (cs : Nat → Nat) (wd : Nat → Nat) (htl : ∀ t, t < 2 → m 0 t = nI (tl t)) (ltl : ∀ t, tl t ≤ 31) (hnc : m 11 0 = nI nc) (lnc : nc ≤ 8) (hnw : m 14 0 = nI nw) (lnw : nw ≤ 6) (hcd : ∀ j, j < nc → m 12 j = nI (cd j)) (lcd : ∀ j, j < nc → cd j < 20) (hcs : ∀ j, j < nc → m 13 j = nI (cs j)) (lcs : ∀ j, j < nc → cs j < 8) (hwd : ∀ j, j < nw → m 15 j = nI (wd j)) (lwd : ∀ j, j < nw → wd j < 20) (hday : day < 20) (hk : k < nS tl m) : Cn l yX6_owed (ws_ yX6_owed cX6_owed 3 (some .int)) 10 0 0 [.ref (mx_ad X 40), .int (nI day), .int (nI k)] (PicM X) (KM X) (mx_A X) m (fun rv_ w_ => rv_ = some (.int (rX6_owed_k day k tl nc nw cd cs wd m)) ∧ w_ = (fX6_owed_k tl nc nw cd cs wd m)) := by
  refine cn_i (own := RX6) rfl (Nat.le_of_ble_eq_true rfl) rfl (fun g hgl hA F hret => ?_)
  refine Wd.eql (lv' := [(0, .ref (mx_ad X 40)), (1, .int (nI day)), (2, .int (nI k))]) rfl ?_
  have hzS := lS tl m
  refine ro_iload_n F dX6_owed_0 1 rfl ?_
  refine mo_cS (rest := []) F hA (metX6_isDay (gx_l g) X m (nI day) ) cwX6_153 hdX6_isDay rfl (Nat.le_of_ble_eq_true rfl) (Nat.le_of_ble_eq_true rfl) (Nat.le_refl _) (Nat.le_refl _) rfl (Nat.le_of_ble_eq_true rfl) dX6_owed_1 ?_
  refine ro_if_eqB (tgt := 29) F dX6_owed_4 (by decide) (fun c4 => absurd (in_ok (by omega) (by omega) (by decide)) c4) (fun c4 => ?_)
  refine ro_iload_n F dX6_owed_7 2 rfl ?_
  refine ro_iconst (v := (-1)) F dX6_owed_8 (by decide) ?_
  refine ro_icmp_eq (tgt := 20) F dX6_owed_9 (by decide) (fun c9 => absurd c9 (nI_ne1 (by omega))) (fun c9 => ?_)
  refine ro_aload_n F dX6_owed_12 0 rfl ?_
  refine ro_iload_n F dX6_owed_13 2 rfl ?_
  refine mo_cV (rest := []) F hA (metX6_isSaver (gx_l g) X m (nI k) tl htl ltl) cwX6_144 hdX6_isSaver rfl (Nat.le_of_ble_eq_true rfl) (Nat.le_of_ble_eq_true rfl) (Nat.le_refl _) (Nat.le_refl _) rfl (Nat.le_of_ble_eq_true rfl) dX6_owed_14 ?_
  refine ro_if_eqB (tgt := 29) F dX6_owed_17 (by decide) (fun c17 => absurd (isv_ok hk (Nat.le_trans (lS _ _) (by decide))) c17) (fun c17 => ?_)
  refine ro_aload_n F dX6_owed_20 0 rfl ?_
  refine ro_iload_n F dX6_owed_21 1 rfl ?_
  refine ro_iload_n F dX6_owed_22 2 rfl ?_
  refine mo_cV (rest := []) F hA (metX6_owedOf_k (gx_l g) X (fX6_isSaver tl m) day k tl nc nw cd cs wd (by rw [show (fX6_isSaver tl m) 0 = _ from fr_fX6_isSaver tl m 0 (by decide) (by decide) (by decide) (by decide) (by decide) (by decide) (by decide)]; exact htl) ltl ((congrFun (fr_fX6_isSaver tl m 11 (by decide) (by decide) (by decide) (by decide) (by decide) (by decide) (by decide)) 0).trans (hnc)) (by omega) ((congrFun (fr_fX6_isSaver tl m 14 (by decide) (by decide) (by decide) (by decide) (by decide) (by decide) (by decide)) 0).trans (hnw)) (by omega) (by rw [show (fX6_isSaver tl m) 12 = _ from fr_fX6_isSaver tl m 12 (by decide) (by decide) (by decide) (by decide) (by decide) (by decide) (by decide)]; exact hcd) lcd (by rw [show (fX6_isSaver tl m) 13 = _ from fr_fX6_isSaver tl m 13 (by decide) (by decide) (by decide) (by decide) (by decide) (by decide) (by decide)]; exact hcs) lcs (by rw [show (fX6_isSaver tl m) 15 = _ from fr_fX6_isSaver tl m 15 (by decide) (by decide) (by decide) (by decide) (by decide) (by decide) (by decide)]; exact hwd) lwd (by omega) (by omega)) cwX6_213 hdX6_owedOf rfl (Nat.le_of_ble_eq_true rfl) (Nat.le_of_ble_eq_true rfl) (Nat.le_refl _) (Nat.le_refl _) rfl (Nat.le_of_ble_eq_true rfl) dX6_owed_23 ?_
  refine ro_goto (tgt := 31) F dX6_owed_26 (by decide) ?_
  exact hret _ _ _ _ _ _ (Nat.le_refl _) (Nat.le_refl _) dX6_owed_31 rfl ⟨congrArg (fun z => some (Value.int z)) (rfl), rfl⟩
noncomputable def fX6_owed_no (day : Int32) (tl : Nat → Nat) (m : Mem) : Mem := (if ¬ (day < (nI 0)) ∧ (¬ ((nI 19) < day)) then (fX6_isSaver tl m) else m)
theorem fr_fX6_owed_no (day : Int32) (tl : Nat → Nat) (m : Mem) (f : Nat) (h2 : f ≠ 2) (h3 : f ≠ 3) (h4 : f ≠ 4) (h5 : f ≠ 5) (h6 : f ≠ 6) (h7 : f ≠ 7) (h8 : f ≠ 8) : fX6_owed_no day tl m f = m f := ite_fr ((fr_fX6_isSaver tl m f h2 h3 h4 h5 h6 h7 h8).trans (rfl)) (rfl)
set_option maxHeartbeats 4000000 in
set_option maxRecDepth 100000 in
theorem metX6_owed_no (l : Launch) (X : Mx) (m : Mem) (day : Int32) (k : Int32) (tl : Nat → Nat) (nc : Nat) (nw : Nat) (cd : Nat → Nat) (cs : Nat → Nat) (wd : Nat → Nat) (htl : ∀ t, t < 2 → m 0 t = nI (tl t)) (ltl : ∀ t, tl t ≤ 31) (hnc : m 11 0 = nI nc) (lnc : nc ≤ 8) (hnw : m 14 0 = nI nw) (lnw : nw ≤ 6) (hcd : ∀ j, j < nc → m 12 j = nI (cd j)) (lcd : ∀ j, j < nc → cd j < 20) (hcs : ∀ j, j < nc → m 13 j = nI (cs j)) (lcs : ∀ j, j < nc → cs j < 8) (hwd : ∀ j, j < nw → m 15 j = nI (wd j)) (lwd : ∀ j, j < nw → wd j < 20) (hb : ¬ ((¬ (day < nI 0) ∧ ¬ (nI 19 < day)) ∧ (k = -1 ∨ rX6_isSaver k tl m))) : Cn l yX6_owed (ws_ yX6_owed cX6_owed 3 (some .int)) 10 0 0 [.ref (mx_ad X 40), .int day, .int k] (PicM X) (KM X) (mx_A X) m (fun rv_ w_ => rv_ = some (.int (-2)) ∧ w_ = (fX6_owed_no day tl m)) := by
  refine cn_i (own := RX6) rfl (Nat.le_of_ble_eq_true rfl) rfl (fun g hgl hA F hret => ?_)
  refine Wd.eql (lv' := [(0, .ref (mx_ad X 40)), (1, .int day), (2, .int k)]) rfl ?_
  refine ro_iload_n F dX6_owed_0 1 rfl ?_
  refine mo_cS (rest := []) F hA (metX6_isDay (gx_l g) X m day ) cwX6_153 hdX6_isDay rfl (Nat.le_of_ble_eq_true rfl) (Nat.le_of_ble_eq_true rfl) (Nat.le_refl _) (Nat.le_refl _) rfl (Nat.le_of_ble_eq_true rfl) dX6_owed_1 ?_
  have J31_4 : Wd (PicM X) g 3 (if ¬ (day < (nI 0)) ∧ (¬ ((nI 19) < day)) then (fX6_isSaver tl m) else m) 0 0 31 [] [.int (-2)] := by
    exact hret _ _ _ _ _ _ (Nat.le_refl _) (Nat.le_refl _) dX6_owed_31 rfl ⟨rfl, rfl⟩
  refine ro_if_eqB (tgt := 29) F dX6_owed_4 (by decide) (fun c4 => ?_) (fun c4 => ?_)
  · refine ro_bipush (v := (-2)) F dX6_owed_29 (by decide) ?_
    exact Wd.sub (lv' := []) [] rfl <| Wd.to J31_4 (by simp only [if_neg c4]) rfl rfl
  · refine ro_iload_n F dX6_owed_7 2 rfl ?_
    refine ro_iconst (v := (-1)) F dX6_owed_8 (by decide) ?_
    refine ro_icmp_eq (tgt := 20) F dX6_owed_9 (by decide) (fun c9 => absurd ⟨c4, Or.inl c9⟩ hb) (fun c9 => ?_)
    refine ro_aload_n F dX6_owed_12 0 rfl ?_
    refine ro_iload_n F dX6_owed_13 2 rfl ?_
    refine mo_cV (rest := []) F hA (metX6_isSaver (gx_l g) X m k tl htl ltl) cwX6_144 hdX6_isSaver rfl (Nat.le_of_ble_eq_true rfl) (Nat.le_of_ble_eq_true rfl) (Nat.le_refl _) (Nat.le_refl _) rfl (Nat.le_of_ble_eq_true rfl) dX6_owed_14 ?_
    refine ro_if_eqB (tgt := 29) F dX6_owed_17 (by decide) (fun c17 => ?_) (fun c17 => absurd ⟨c4, Or.inr c17⟩ hb)
    refine ro_bipush (v := (-2)) F dX6_owed_29 (by decide) ?_
    exact Wd.sub (lv' := []) [] rfl <| Wd.to J31_4 (by simp only [if_pos c4, if_neg c9, if_neg c17]) rfl rfl
noncomputable def rX6_heard (day : Nat) (k : Nat) (what : Int32) (tl : Nat → Nat) (nc : Nat) (nw : Nat) (cd : Nat → Nat) (cs : Nat → Nat) (wd : Nat → Nat) (m : Mem) : Int32 := (if ¬ (what < (nI 0)) ∧ (¬ ((nI 1) < what)) then (rX6_heardOf day k what tl nc nw cd cs wd (fX6_isSaver tl m)) else (-2))
noncomputable def fX6_heard (what : Int32) (tl : Nat → Nat) (nc : Nat) (nw : Nat) (cd : Nat → Nat) (cs : Nat → Nat) (wd : Nat → Nat) (m : Mem) : Mem := (if ¬ (what < (nI 0)) ∧ (¬ ((nI 1) < what)) then (fX6_heardOf tl nc nw cd cs wd (fX6_isSaver tl m)) else (fX6_isSaver tl m))
theorem fr_fX6_heard (what : Int32) (tl : Nat → Nat) (nc : Nat) (nw : Nat) (cd : Nat → Nat) (cs : Nat → Nat) (wd : Nat → Nat) (m : Mem) (f : Nat) (h2 : f ≠ 2) (h3 : f ≠ 3) (h4 : f ≠ 4) (h5 : f ≠ 5) (h6 : f ≠ 6) (h7 : f ≠ 7) (h8 : f ≠ 8) (h16 : f ≠ 16) (h17 : f ≠ 17) (h18 : f ≠ 18) (h19 : f ≠ 19) (h20 : f ≠ 20) (h21 : f ≠ 21) (h22 : f ≠ 22) (h23 : f ≠ 23) (h24 : f ≠ 24) (h25 : f ≠ 25) (h26 : f ≠ 26) (h27 : f ≠ 27) : fX6_heard what tl nc nw cd cs wd m f = m f := ite_fr ((fr_fX6_heardOf tl nc nw cd cs wd (fX6_isSaver tl m) f h2 h3 h4 h5 h6 h7 h8 h16 h17 h18 h19 h20 h21 h22 h23 h24 h25 h26 h27).trans ((fr_fX6_isSaver tl m f h2 h3 h4 h5 h6 h7 h8).trans (rfl))) ((fr_fX6_isSaver tl m f h2 h3 h4 h5 h6 h7 h8).trans (rfl))
set_option maxHeartbeats 4000000 in
set_option maxRecDepth 100000 in
theorem metX6_heard (l : Launch) (X : Mx) (m : Mem) (day : Nat) (k : Nat) (what : Int32) (tl : Nat → Nat) (nc : Nat) (nw : Nat) (cd : Nat → Nat) (cs : Nat → Nat) (wd : Nat → Nat) (htl : ∀ t, t < 2 → m 0 t = nI (tl t)) (ltl : ∀ t, tl t ≤ 31) (hnc : m 11 0 = nI nc) (lnc : nc ≤ 8) (hnw : m 14 0 = nI nw) (lnw : nw ≤ 6) (hcd : ∀ j, j < nc → m 12 j = nI (cd j)) (lcd : ∀ j, j < nc → cd j < 20) (hcs : ∀ j, j < nc → m 13 j = nI (cs j)) (lcs : ∀ j, j < nc → cs j < 8) (hwd : ∀ j, j < nw → m 15 j = nI (wd j)) (lwd : ∀ j, j < nw → wd j < 20) (hday : day < 20) (hk : k < nS tl m) : Cn l yX6_heard (ws_ yX6_heard cX6_heard 4 (some .int)) 10 0 0 [.ref (mx_ad X 40), .int (nI day), .int (nI k), .int what] (PicM X) (KM X) (mx_A X) m (fun rv_ w_ => rv_ = some (.int (rX6_heard day k what tl nc nw cd cs wd m)) ∧ w_ = (fX6_heard what tl nc nw cd cs wd m)) := by
  refine cn_i (own := RX6) rfl (Nat.le_of_ble_eq_true rfl) rfl (fun g hgl hA F hret => ?_)
  refine Wd.eql (lv' := [(0, .ref (mx_ad X 40)), (1, .int (nI day)), (2, .int (nI k)), (3, .int what)]) rfl ?_
  have hzS := lS tl m
  refine ro_iload_n F dX6_heard_0 1 rfl ?_
  refine mo_cS (rest := []) F hA (metX6_isDay (gx_l g) X m (nI day) ) cwX6_153 hdX6_isDay rfl (Nat.le_of_ble_eq_true rfl) (Nat.le_of_ble_eq_true rfl) (Nat.le_refl _) (Nat.le_refl _) rfl (Nat.le_of_ble_eq_true rfl) dX6_heard_1 ?_
  refine ro_if_eqB (tgt := 34) F dX6_heard_4 (by decide) (fun c4 => absurd (in_ok (by omega) (by omega) (by decide)) c4) (fun c4 => ?_)
  refine ro_aload_n F dX6_heard_7 0 rfl ?_
  refine ro_iload_n F dX6_heard_8 2 rfl ?_
  refine mo_cV (rest := []) F hA (metX6_isSaver (gx_l g) X m (nI k) tl htl ltl) cwX6_144 hdX6_isSaver rfl (Nat.le_of_ble_eq_true rfl) (Nat.le_of_ble_eq_true rfl) (Nat.le_refl _) (Nat.le_refl _) rfl (Nat.le_of_ble_eq_true rfl) dX6_heard_9 ?_
  refine ro_if_eqB (tgt := 34) F dX6_heard_12 (by decide) (fun c12 => absurd (isv_ok hk (Nat.le_trans (lS _ _) (by decide))) c12) (fun c12 => ?_)
  refine ro_iload_n F dX6_heard_15 3 rfl ?_
  refine ro_iconst (v := (nI 0)) F dX6_heard_16 (by decide) ?_
  refine ro_iconst (v := (nI 1)) F dX6_heard_17 (by decide) ?_
  refine mo_cS (rest := []) F hA (metX6_in (gx_l g) X (fX6_isSaver tl m) what (nI 0) (nI 1) ) cwX6_104 hdX6_in rfl (Nat.le_of_ble_eq_true rfl) (Nat.le_of_ble_eq_true rfl) (Nat.le_refl _) (Nat.le_refl _) rfl (Nat.le_of_ble_eq_true rfl) dX6_heard_18 ?_
  have J36_21 : Wd (PicM X) g 4 (if ¬ (what < (nI 0)) ∧ (¬ ((nI 1) < what)) then (fX6_heardOf tl nc nw cd cs wd (fX6_isSaver tl m)) else (fX6_isSaver tl m)) 0 0 36 [] [.int (if ¬ (what < (nI 0)) ∧ (¬ ((nI 1) < what)) then (rX6_heardOf day k what tl nc nw cd cs wd (fX6_isSaver tl m)) else (-2))] := by
    exact hret _ _ _ _ _ _ (Nat.le_refl _) (Nat.le_refl _) dX6_heard_36 rfl ⟨congrArg (fun z => some (Value.int z)) (rfl), rfl⟩
  refine ro_if_eqB (tgt := 34) F dX6_heard_21 (by decide) (fun c21 => ?_) (fun c21 => ?_)
  · refine ro_bipush (v := (-2)) F dX6_heard_34 (by decide) ?_
    exact Wd.sub (lv' := []) [] rfl <| Wd.to J36_21 (by simp only [if_neg c21]) rfl (congrArg (fun z => ([Value.int z] : List Value)) (by simp only [if_neg c21]))
  · refine ro_aload_n F dX6_heard_24 0 rfl ?_
    refine ro_iload_n F dX6_heard_25 1 rfl ?_
    refine ro_iload_n F dX6_heard_26 2 rfl ?_
    refine ro_iload_n F dX6_heard_27 3 rfl ?_
    refine mo_cV (rest := []) F hA (metX6_heardOf (gx_l g) X (fX6_isSaver tl m) day k what tl nc nw cd cs wd (by rw [show (fX6_isSaver tl m) 0 = _ from fr_fX6_isSaver tl m 0 (by decide) (by decide) (by decide) (by decide) (by decide) (by decide) (by decide)]; exact htl) ltl ((congrFun (fr_fX6_isSaver tl m 11 (by decide) (by decide) (by decide) (by decide) (by decide) (by decide) (by decide)) 0).trans (hnc)) (by omega) ((congrFun (fr_fX6_isSaver tl m 14 (by decide) (by decide) (by decide) (by decide) (by decide) (by decide) (by decide)) 0).trans (hnw)) (by omega) (by rw [show (fX6_isSaver tl m) 12 = _ from fr_fX6_isSaver tl m 12 (by decide) (by decide) (by decide) (by decide) (by decide) (by decide) (by decide)]; exact hcd) lcd (by rw [show (fX6_isSaver tl m) 13 = _ from fr_fX6_isSaver tl m 13 (by decide) (by decide) (by decide) (by decide) (by decide) (by decide) (by decide)]; exact hcs) lcs (by rw [show (fX6_isSaver tl m) 15 = _ from fr_fX6_isSaver tl m 15 (by decide) (by decide) (by decide) (by decide) (by decide) (by decide) (by decide)]; exact hwd) lwd (by omega) (by omega)) cwX6_216 hdX6_heardOf rfl (Nat.le_of_ble_eq_true rfl) (Nat.le_of_ble_eq_true rfl) (Nat.le_refl _) (Nat.le_refl _) rfl (Nat.le_of_ble_eq_true rfl) dX6_heard_28 ?_
    refine ro_goto (tgt := 36) F dX6_heard_31 (by decide) ?_
    exact Wd.sub (lv' := []) [] rfl <| Wd.to J36_21 (by simp only [if_pos c21]) rfl (congrArg (fun z => ([Value.int z] : List Value)) (by simp only [if_pos c21]))
noncomputable def fX6_heard_no (day : Int32) (tl : Nat → Nat) (m : Mem) : Mem := (if ¬ (day < (nI 0)) ∧ (¬ ((nI 19) < day)) then (fX6_isSaver tl m) else m)
theorem fr_fX6_heard_no (day : Int32) (tl : Nat → Nat) (m : Mem) (f : Nat) (h2 : f ≠ 2) (h3 : f ≠ 3) (h4 : f ≠ 4) (h5 : f ≠ 5) (h6 : f ≠ 6) (h7 : f ≠ 7) (h8 : f ≠ 8) : fX6_heard_no day tl m f = m f := ite_fr ((fr_fX6_isSaver tl m f h2 h3 h4 h5 h6 h7 h8).trans (rfl)) (rfl)
set_option maxHeartbeats 4000000 in
set_option maxRecDepth 100000 in
theorem metX6_heard_no (l : Launch) (X : Mx) (m : Mem) (day : Int32) (k : Int32) (what : Int32) (tl : Nat → Nat) (nc : Nat) (nw : Nat) (cd : Nat → Nat) (cs : Nat → Nat) (wd : Nat → Nat) (htl : ∀ t, t < 2 → m 0 t = nI (tl t)) (ltl : ∀ t, tl t ≤ 31) (hnc : m 11 0 = nI nc) (lnc : nc ≤ 8) (hnw : m 14 0 = nI nw) (lnw : nw ≤ 6) (hcd : ∀ j, j < nc → m 12 j = nI (cd j)) (lcd : ∀ j, j < nc → cd j < 20) (hcs : ∀ j, j < nc → m 13 j = nI (cs j)) (lcs : ∀ j, j < nc → cs j < 8) (hwd : ∀ j, j < nw → m 15 j = nI (wd j)) (lwd : ∀ j, j < nw → wd j < 20) (hb : ¬ ((¬ (day < nI 0) ∧ ¬ (nI 19 < day)) ∧ rX6_isSaver k tl m)) : Cn l yX6_heard (ws_ yX6_heard cX6_heard 4 (some .int)) 10 0 0 [.ref (mx_ad X 40), .int day, .int k, .int what] (PicM X) (KM X) (mx_A X) m (fun rv_ w_ => rv_ = some (.int (-2)) ∧ w_ = (fX6_heard_no day tl m)) := by
  refine cn_i (own := RX6) rfl (Nat.le_of_ble_eq_true rfl) rfl (fun g hgl hA F hret => ?_)
  refine Wd.eql (lv' := [(0, .ref (mx_ad X 40)), (1, .int day), (2, .int k), (3, .int what)]) rfl ?_
  refine ro_iload_n F dX6_heard_0 1 rfl ?_
  refine mo_cS (rest := []) F hA (metX6_isDay (gx_l g) X m day ) cwX6_153 hdX6_isDay rfl (Nat.le_of_ble_eq_true rfl) (Nat.le_of_ble_eq_true rfl) (Nat.le_refl _) (Nat.le_refl _) rfl (Nat.le_of_ble_eq_true rfl) dX6_heard_1 ?_
  have J36_4 : Wd (PicM X) g 4 (if ¬ (day < (nI 0)) ∧ (¬ ((nI 19) < day)) then (fX6_isSaver tl m) else m) 0 0 36 [] [.int (-2)] := by
    exact hret _ _ _ _ _ _ (Nat.le_refl _) (Nat.le_refl _) dX6_heard_36 rfl ⟨rfl, rfl⟩
  refine ro_if_eqB (tgt := 34) F dX6_heard_4 (by decide) (fun c4 => ?_) (fun c4 => ?_)
  · refine ro_bipush (v := (-2)) F dX6_heard_34 (by decide) ?_
    exact Wd.sub (lv' := []) [] rfl <| Wd.to J36_4 (by simp only [if_neg c4]) rfl rfl
  · refine ro_aload_n F dX6_heard_7 0 rfl ?_
    refine ro_iload_n F dX6_heard_8 2 rfl ?_
    refine mo_cV (rest := []) F hA (metX6_isSaver (gx_l g) X m k tl htl ltl) cwX6_144 hdX6_isSaver rfl (Nat.le_of_ble_eq_true rfl) (Nat.le_of_ble_eq_true rfl) (Nat.le_refl _) (Nat.le_refl _) rfl (Nat.le_of_ble_eq_true rfl) dX6_heard_9 ?_
    refine ro_if_eqB (tgt := 34) F dX6_heard_12 (by decide) (fun c12 => ?_) (fun c12 => absurd ⟨c4, c12⟩ hb)
    refine ro_bipush (v := (-2)) F dX6_heard_34 (by decide) ?_
    exact Wd.sub (lv' := []) [] rfl <| Wd.to J36_4 (by simp only [if_pos c4, if_neg c12]) rfl rfl
noncomputable def rX6_left (day : Nat) (p : Nat) (tl : Nat → Nat) (nc : Nat) (nw : Nat) (cd : Nat → Nat) (cs : Nat → Nat) (wd : Nat → Nat) (m : Mem) : Int32 := (rX6_leftOf day p tl nc nw cd cs wd (fX6_isPartner tl m))
noncomputable def fX6_left (tl : Nat → Nat) (nc : Nat) (nw : Nat) (cd : Nat → Nat) (cs : Nat → Nat) (wd : Nat → Nat) (m : Mem) : Mem := (fX6_leftOf tl nc nw cd cs wd (fX6_isPartner tl m))
theorem fr_fX6_left (tl : Nat → Nat) (nc : Nat) (nw : Nat) (cd : Nat → Nat) (cs : Nat → Nat) (wd : Nat → Nat) (m : Mem) (f : Nat) (h2 : f ≠ 2) (h3 : f ≠ 3) (h4 : f ≠ 4) (h5 : f ≠ 5) (h6 : f ≠ 6) (h7 : f ≠ 7) (h8 : f ≠ 8) (h16 : f ≠ 16) (h17 : f ≠ 17) (h18 : f ≠ 18) (h19 : f ≠ 19) (h20 : f ≠ 20) (h21 : f ≠ 21) (h22 : f ≠ 22) (h23 : f ≠ 23) (h24 : f ≠ 24) (h25 : f ≠ 25) (h26 : f ≠ 26) (h27 : f ≠ 27) : fX6_left tl nc nw cd cs wd m f = m f := (fr_fX6_leftOf tl nc nw cd cs wd (fX6_isPartner tl m) f h2 h3 h4 h5 h6 h7 h8 h16 h17 h18 h19 h20 h21 h22 h23 h24 h25 h26 h27).trans ((fr_fX6_isPartner tl m f h2 h3 h4 h5 h6 h7 h8).trans (rfl))
set_option maxHeartbeats 4000000 in
set_option maxRecDepth 100000 in
theorem metX6_left (l : Launch) (X : Mx) (m : Mem) (day : Nat) (p : Nat) (tl : Nat → Nat) (nc : Nat) (nw : Nat) (cd : Nat → Nat) (cs : Nat → Nat) (wd : Nat → Nat) (htl : ∀ t, t < 2 → m 0 t = nI (tl t)) (ltl : ∀ t, tl t ≤ 31) (hnc : m 11 0 = nI nc) (lnc : nc ≤ 8) (hnw : m 14 0 = nI nw) (lnw : nw ≤ 6) (hcd : ∀ j, j < nc → m 12 j = nI (cd j)) (lcd : ∀ j, j < nc → cd j < 20) (hcs : ∀ j, j < nc → m 13 j = nI (cs j)) (lcs : ∀ j, j < nc → cs j < 8) (hwd : ∀ j, j < nw → m 15 j = nI (wd j)) (lwd : ∀ j, j < nw → wd j < 20) (hday : day < 20) (hp : p < nP tl m) : Cn l yX6_left (ws_ yX6_left cX6_left 3 (some .int)) 10 0 0 [.ref (mx_ad X 40), .int (nI day), .int (nI p)] (PicM X) (KM X) (mx_A X) m (fun rv_ w_ => rv_ = some (.int (rX6_left day p tl nc nw cd cs wd m)) ∧ w_ = (fX6_left tl nc nw cd cs wd m)) := by
  refine cn_i (own := RX6) rfl (Nat.le_of_ble_eq_true rfl) rfl (fun g hgl hA F hret => ?_)
  refine Wd.eql (lv' := [(0, .ref (mx_ad X 40)), (1, .int (nI day)), (2, .int (nI p))]) rfl ?_
  have hzP := lP tl m
  refine ro_iload_n F dX6_left_0 1 rfl ?_
  refine mo_cS (rest := []) F hA (metX6_isDay (gx_l g) X m (nI day) ) cwX6_153 hdX6_isDay rfl (Nat.le_of_ble_eq_true rfl) (Nat.le_of_ble_eq_true rfl) (Nat.le_refl _) (Nat.le_refl _) rfl (Nat.le_of_ble_eq_true rfl) dX6_left_1 ?_
  refine ro_if_eqB (tgt := 24) F dX6_left_4 (by decide) (fun c4 => absurd (in_ok (by omega) (by omega) (by decide)) c4) (fun c4 => ?_)
  refine ro_aload_n F dX6_left_7 0 rfl ?_
  refine ro_iload_n F dX6_left_8 2 rfl ?_
  refine mo_cV (rest := []) F hA (metX6_isPartner (gx_l g) X m (nI p) tl htl ltl) cwX6_150 hdX6_isPartner rfl (Nat.le_of_ble_eq_true rfl) (Nat.le_of_ble_eq_true rfl) (Nat.le_refl _) (Nat.le_refl _) rfl (Nat.le_of_ble_eq_true rfl) dX6_left_9 ?_
  refine ro_if_eqB (tgt := 24) F dX6_left_12 (by decide) (fun c12 => absurd (isv_ok hp (Nat.le_trans (lP _ _) (by decide))) c12) (fun c12 => ?_)
  refine ro_aload_n F dX6_left_15 0 rfl ?_
  refine ro_iload_n F dX6_left_16 1 rfl ?_
  refine ro_iload_n F dX6_left_17 2 rfl ?_
  refine mo_cV (rest := []) F hA (metX6_leftOf (gx_l g) X (fX6_isPartner tl m) day p tl nc nw cd cs wd (by rw [show (fX6_isPartner tl m) 0 = _ from fr_fX6_isPartner tl m 0 (by decide) (by decide) (by decide) (by decide) (by decide) (by decide) (by decide)]; exact htl) ltl ((congrFun (fr_fX6_isPartner tl m 11 (by decide) (by decide) (by decide) (by decide) (by decide) (by decide) (by decide)) 0).trans (hnc)) (by omega) ((congrFun (fr_fX6_isPartner tl m 14 (by decide) (by decide) (by decide) (by decide) (by decide) (by decide) (by decide)) 0).trans (hnw)) (by omega) (by rw [show (fX6_isPartner tl m) 12 = _ from fr_fX6_isPartner tl m 12 (by decide) (by decide) (by decide) (by decide) (by decide) (by decide) (by decide)]; exact hcd) lcd (by rw [show (fX6_isPartner tl m) 13 = _ from fr_fX6_isPartner tl m 13 (by decide) (by decide) (by decide) (by decide) (by decide) (by decide) (by decide)]; exact hcs) lcs (by rw [show (fX6_isPartner tl m) 15 = _ from fr_fX6_isPartner tl m 15 (by decide) (by decide) (by decide) (by decide) (by decide) (by decide) (by decide)]; exact hwd) lwd (by omega) (by omega)) cwX6_220 hdX6_leftOf rfl (Nat.le_of_ble_eq_true rfl) (Nat.le_of_ble_eq_true rfl) (Nat.le_refl _) (Nat.le_refl _) rfl (Nat.le_of_ble_eq_true rfl) dX6_left_18 ?_
  refine ro_goto (tgt := 26) F dX6_left_21 (by decide) ?_
  exact hret _ _ _ _ _ _ (Nat.le_refl _) (Nat.le_refl _) dX6_left_26 rfl ⟨congrArg (fun z => some (Value.int z)) (rfl), rfl⟩
noncomputable def fX6_left_no (day : Int32) (tl : Nat → Nat) (m : Mem) : Mem := (if ¬ (day < (nI 0)) ∧ (¬ ((nI 19) < day)) then (fX6_isPartner tl m) else m)
theorem fr_fX6_left_no (day : Int32) (tl : Nat → Nat) (m : Mem) (f : Nat) (h2 : f ≠ 2) (h3 : f ≠ 3) (h4 : f ≠ 4) (h5 : f ≠ 5) (h6 : f ≠ 6) (h7 : f ≠ 7) (h8 : f ≠ 8) : fX6_left_no day tl m f = m f := ite_fr ((fr_fX6_isPartner tl m f h2 h3 h4 h5 h6 h7 h8).trans (rfl)) (rfl)
set_option maxHeartbeats 4000000 in
set_option maxRecDepth 100000 in
theorem metX6_left_no (l : Launch) (X : Mx) (m : Mem) (day : Int32) (p : Int32) (tl : Nat → Nat) (nc : Nat) (nw : Nat) (cd : Nat → Nat) (cs : Nat → Nat) (wd : Nat → Nat) (htl : ∀ t, t < 2 → m 0 t = nI (tl t)) (ltl : ∀ t, tl t ≤ 31) (hnc : m 11 0 = nI nc) (lnc : nc ≤ 8) (hnw : m 14 0 = nI nw) (lnw : nw ≤ 6) (hcd : ∀ j, j < nc → m 12 j = nI (cd j)) (lcd : ∀ j, j < nc → cd j < 20) (hcs : ∀ j, j < nc → m 13 j = nI (cs j)) (lcs : ∀ j, j < nc → cs j < 8) (hwd : ∀ j, j < nw → m 15 j = nI (wd j)) (lwd : ∀ j, j < nw → wd j < 20) (hb : ¬ ((¬ (day < nI 0) ∧ ¬ (nI 19 < day)) ∧ rX6_isPartner p tl m)) : Cn l yX6_left (ws_ yX6_left cX6_left 3 (some .int)) 10 0 0 [.ref (mx_ad X 40), .int day, .int p] (PicM X) (KM X) (mx_A X) m (fun rv_ w_ => rv_ = some (.int (-2)) ∧ w_ = (fX6_left_no day tl m)) := by
  refine cn_i (own := RX6) rfl (Nat.le_of_ble_eq_true rfl) rfl (fun g hgl hA F hret => ?_)
  refine Wd.eql (lv' := [(0, .ref (mx_ad X 40)), (1, .int day), (2, .int p)]) rfl ?_
  refine ro_iload_n F dX6_left_0 1 rfl ?_
  refine mo_cS (rest := []) F hA (metX6_isDay (gx_l g) X m day ) cwX6_153 hdX6_isDay rfl (Nat.le_of_ble_eq_true rfl) (Nat.le_of_ble_eq_true rfl) (Nat.le_refl _) (Nat.le_refl _) rfl (Nat.le_of_ble_eq_true rfl) dX6_left_1 ?_
  have J26_4 : Wd (PicM X) g 3 (if ¬ (day < (nI 0)) ∧ (¬ ((nI 19) < day)) then (fX6_isPartner tl m) else m) 0 0 26 [] [.int (-2)] := by
    exact hret _ _ _ _ _ _ (Nat.le_refl _) (Nat.le_refl _) dX6_left_26 rfl ⟨rfl, rfl⟩
  refine ro_if_eqB (tgt := 24) F dX6_left_4 (by decide) (fun c4 => ?_) (fun c4 => ?_)
  · refine ro_bipush (v := (-2)) F dX6_left_24 (by decide) ?_
    exact Wd.sub (lv' := []) [] rfl <| Wd.to J26_4 (by simp only [if_neg c4]) rfl rfl
  · refine ro_aload_n F dX6_left_7 0 rfl ?_
    refine ro_iload_n F dX6_left_8 2 rfl ?_
    refine mo_cV (rest := []) F hA (metX6_isPartner (gx_l g) X m p tl htl ltl) cwX6_150 hdX6_isPartner rfl (Nat.le_of_ble_eq_true rfl) (Nat.le_of_ble_eq_true rfl) (Nat.le_refl _) (Nat.le_refl _) rfl (Nat.le_of_ble_eq_true rfl) dX6_left_9 ?_
    refine ro_if_eqB (tgt := 24) F dX6_left_12 (by decide) (fun c12 => ?_) (fun c12 => absurd ⟨c4, c12⟩ hb)
    refine ro_bipush (v := (-2)) F dX6_left_24 (by decide) ?_
    exact Wd.sub (lv' := []) [] rfl <| Wd.to J26_4 (by simp only [if_pos c4, if_neg c12]) rfl rfl
