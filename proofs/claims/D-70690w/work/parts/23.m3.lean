theorem isv_ok {k n : Nat} (h : k < n) (hn : n ≤ 9) : ¬ (nI k < nI 0) ∧ ¬ (nI n - nI 1 < nI k) := ⟨nI_nlt (Nat.zero_le _) (by omega), by rw [pk_sub (show 1 ≤ n by omega)]; exact nI_nlt (by omega) (by omega)⟩
noncomputable def rX6_faultOf (text : Int32) (tl : Nat → Nat) (m : Mem) : Int32 := (if text = 0 then (rX6_readsParts0 tl m) else (rX6_readsParts1 tl (fX6_readsParts0 tl m)))
noncomputable def fX6_faultOf (tl : Nat → Nat) (m : Mem) : Mem := (fX6_readsParts1 tl (fX6_readsParts0 tl m))
theorem fr_fX6_faultOf (tl : Nat → Nat) (m : Mem) (f : Nat) (h2 : f ≠ 2) (h3 : f ≠ 3) (h4 : f ≠ 4) (h5 : f ≠ 5) (h6 : f ≠ 6) (h7 : f ≠ 7) (h8 : f ≠ 8) : fX6_faultOf tl m f = m f := (fr_fX6_readsParts1 tl (fX6_readsParts0 tl m) f h6 h7 h8).trans ((fr_fX6_readsParts0 tl m f h2 h3 h4 h5).trans (rfl))
theorem gv_X6_faultOf_2 (m : Mem) (text : Int32) (tl : Nat → Nat) (htl : ∀ t, t < 2 → m 0 t = nI (tl t)) (ltl : ∀ t, tl t ≤ 31) : fX6_faultOf tl m 2 0 = (nI (nS tl m)) := show (fX6_readsParts1 tl (fX6_readsParts0 tl m)) 2 0 = _ from (congrFun (fr_fX6_readsParts1 tl (fX6_readsParts0 tl m) 2 (by decide) (by decide) (by decide)) 0).trans (hS' (m := m) tl (rfl))
theorem gv_X6_faultOf_6 (m : Mem) (text : Int32) (tl : Nat → Nat) (htl : ∀ t, t < 2 → m 0 t = nI (tl t)) (ltl : ∀ t, tl t ≤ 31) : fX6_faultOf tl m 6 0 = (nI (nP tl m)) := show (fX6_readsParts1 tl (fX6_readsParts0 tl m)) 6 0 = _ from hP' (m := m) tl (fr_fX6_readsParts0 tl m 1 (by decide) (by decide) (by decide) (by decide))
set_option maxHeartbeats 4000000 in
set_option maxRecDepth 100000 in
theorem metX6_faultOf (l : Launch) (X : Mx) (m : Mem) (text : Int32) (tl : Nat → Nat) (htl : ∀ t, t < 2 → m 0 t = nI (tl t)) (ltl : ∀ t, tl t ≤ 31) : Cn l yX6_faultOf (ws_ yX6_faultOf cX6_faultOf 4 (some .int)) 5 0 0 [.ref (mx_ad X 40), .int text] (PicM X) (KM X) (mx_A X) m (fun rv_ w_ => rv_ = some (.int (rX6_faultOf text tl m)) ∧ w_ = (fX6_faultOf tl m)) := by
  refine cn_i (own := RX6) rfl (Nat.le_of_ble_eq_true rfl) rfl (fun g hgl hA F hret => ?_)
  refine Wd.eql (lv' := [(0, .ref (mx_ad X 40)), (1, .int text)]) rfl ?_
  refine ro_aload_n F dX6_faultOf_0 0 rfl ?_
  refine ro_iconst (v := (nI 0)) F dX6_faultOf_1 (by decide) ?_
  refine mo_cV (rest := []) F hA (metX6_readsParts0 (gx_l g) X m tl htl ltl) cwX6_134 hdX6_readsParts rfl (Nat.le_of_ble_eq_true rfl) (Nat.le_of_ble_eq_true rfl) (Nat.le_refl _) (Nat.le_refl _) rfl (Nat.le_of_ble_eq_true rfl) dX6_faultOf_2 ?_
  refine ro_istore_n (lv' := [(0, .ref (mx_ad X 40)), (1, .int text), (2, .int (rX6_readsParts0 tl m))]) F dX6_faultOf_5 (Nat.le_of_ble_eq_true rfl) [1, 2, 0] rfl ?_
  refine ro_aload_n F dX6_faultOf_6 0 rfl ?_
  refine ro_iconst (v := (nI 1)) F dX6_faultOf_7 (by decide) ?_
  refine mo_cV (rest := []) F hA (metX6_readsParts1 (gx_l g) X (fX6_readsParts0 tl m) tl (by rw [show (fX6_readsParts0 tl m) 0 = _ from fr_fX6_readsParts0 tl m 0 (by decide) (by decide) (by decide) (by decide)]; exact htl) ltl) cwX6_134 hdX6_readsParts rfl (Nat.le_of_ble_eq_true rfl) (Nat.le_of_ble_eq_true rfl) (Nat.le_refl _) (Nat.le_refl _) rfl (Nat.le_of_ble_eq_true rfl) dX6_faultOf_8 ?_
  refine ro_istore_n (lv' := [(0, .ref (mx_ad X 40)), (1, .int text), (2, .int (rX6_readsParts0 tl m)), (3, .int (rX6_readsParts1 tl (fX6_readsParts0 tl m)))]) F dX6_faultOf_11 (Nat.le_of_ble_eq_true rfl) [1, 2, 3, 0] rfl ?_
  refine ro_iload_n F dX6_faultOf_12 1 rfl ?_
  have J21_13 : Wd (PicM X) g 4 (fX6_readsParts1 tl (fX6_readsParts0 tl m)) 0 0 21 [] [.int (if text = 0 then (rX6_readsParts0 tl m) else (rX6_readsParts1 tl (fX6_readsParts0 tl m)))] := by
    exact hret _ _ _ _ _ _ (Nat.le_refl _) (Nat.le_refl _) dX6_faultOf_21 rfl ⟨congrArg (fun z => some (Value.int z)) (rfl), rfl⟩
  refine ro_if_ne (tgt := 20) F dX6_faultOf_13 (by decide) (fun c13 => ?_) (fun c13 => ?_)
  · refine ro_iload_n F dX6_faultOf_20 3 rfl ?_
    exact Wd.sub (lv' := []) [] rfl <| Wd.to J21_13 rfl rfl (congrArg (fun z => ([Value.int z] : List Value)) (by simp only [if_neg c13]))
  · refine ro_iload_n F dX6_faultOf_16 2 rfl ?_
    refine ro_goto (tgt := 21) F dX6_faultOf_17 (by decide) ?_
    exact Wd.sub (lv' := []) [] rfl <| Wd.to J21_13 rfl rfl (congrArg (fun z => ([Value.int z] : List Value)) (by simp only [if_pos c13]))
noncomputable def fX6_reads (tl : Nat → Nat) (m : Mem) : Mem := (fX6_faultOf tl m)
theorem fr_fX6_reads (tl : Nat → Nat) (m : Mem) (f : Nat) (h2 : f ≠ 2) (h3 : f ≠ 3) (h4 : f ≠ 4) (h5 : f ≠ 5) (h6 : f ≠ 6) (h7 : f ≠ 7) (h8 : f ≠ 8) : fX6_reads tl m f = m f := (fr_fX6_faultOf tl m f h2 h3 h4 h5 h6 h7 h8).trans (rfl)
theorem gv_X6_reads_2 (m : Mem)  (tl : Nat → Nat) (htl : ∀ t, t < 2 → m 0 t = nI (tl t)) (ltl : ∀ t, tl t ≤ 31) : fX6_reads tl m 2 0 = (nI (nS tl m)) := show (fX6_faultOf tl m) 2 0 = _ from gv_X6_faultOf_2 m (nI 0) tl htl ltl
theorem gv_X6_reads_6 (m : Mem)  (tl : Nat → Nat) (htl : ∀ t, t < 2 → m 0 t = nI (tl t)) (ltl : ∀ t, tl t ≤ 31) : fX6_reads tl m 6 0 = (nI (nP tl m)) := show (fX6_faultOf tl m) 6 0 = _ from gv_X6_faultOf_6 m (nI 0) tl htl ltl
set_option maxHeartbeats 4000000 in
set_option maxRecDepth 100000 in
theorem metX6_reads (l : Launch) (X : Mx) (m : Mem)  (tl : Nat → Nat) (htl : ∀ t, t < 2 → m 0 t = nI (tl t)) (ltl : ∀ t, tl t ≤ 31) : Cn l yX6_reads (ws_ yX6_reads cX6_reads 2 none) 6 0 0 [.ref (mx_ad X 40)] (PicM X) (KM X) (mx_A X) m (fun rv_ w_ => rv_ = none ∧ w_ = (fX6_reads tl m)) := by
  refine cn_v (own := RX6) rfl (Nat.le_of_ble_eq_true rfl) rfl (fun g hgl hA F hret => ?_)
  refine Wd.eql (lv' := [(0, .ref (mx_ad X 40))]) rfl ?_
  refine ro_aload_n F dX6_reads_0 0 rfl ?_
  refine ro_iconst (v := (nI 0)) F dX6_reads_1 (by decide) ?_
  refine mo_cV (rest := []) F hA (metX6_faultOf (gx_l g) X m (nI 0) tl htl ltl) cwX6_138 hdX6_faultOf rfl (Nat.le_of_ble_eq_true rfl) (Nat.le_of_ble_eq_true rfl) (Nat.le_refl _) (Nat.le_refl _) rfl (Nat.le_of_ble_eq_true rfl) dX6_reads_2 ?_
  refine ro_istore_n (lv' := [(0, .ref (mx_ad X 40)), (1, .int (rX6_faultOf (nI 0) tl m))]) F dX6_reads_5 (Nat.le_of_ble_eq_true rfl) [1, 0] rfl ?_
  exact hret _ _ _ _ _ (Nat.le_refl _) (Nat.le_refl _) dX6_reads_6 ⟨rfl, rfl⟩
noncomputable def rX6_fault (text : Int32) (tl : Nat → Nat) (m : Mem) : Int32 := (if ¬ (text < (nI 0)) ∧ (¬ ((nI 1) < text)) then (rX6_faultOf text tl m) else (-2))
noncomputable def fX6_fault (text : Int32) (tl : Nat → Nat) (m : Mem) : Mem := (if ¬ (text < (nI 0)) ∧ (¬ ((nI 1) < text)) then (fX6_faultOf tl m) else m)
theorem fr_fX6_fault (text : Int32) (tl : Nat → Nat) (m : Mem) (f : Nat) (h2 : f ≠ 2) (h3 : f ≠ 3) (h4 : f ≠ 4) (h5 : f ≠ 5) (h6 : f ≠ 6) (h7 : f ≠ 7) (h8 : f ≠ 8) : fX6_fault text tl m f = m f := ite_fr ((fr_fX6_faultOf tl m f h2 h3 h4 h5 h6 h7 h8).trans (rfl)) (rfl)
set_option maxHeartbeats 4000000 in
set_option maxRecDepth 100000 in
theorem metX6_fault (l : Launch) (X : Mx) (m : Mem) (text : Int32) (tl : Nat → Nat) (htl : ∀ t, t < 2 → m 0 t = nI (tl t)) (ltl : ∀ t, tl t ≤ 31) : Cn l yX6_fault (ws_ yX6_fault cX6_fault 2 (some .int)) 6 0 0 [.ref (mx_ad X 40), .int text] (PicM X) (KM X) (mx_A X) m (fun rv_ w_ => rv_ = some (.int (rX6_fault text tl m)) ∧ w_ = (fX6_fault text tl m)) := by
  refine cn_i (own := RX6) rfl (Nat.le_of_ble_eq_true rfl) rfl (fun g hgl hA F hret => ?_)
  refine Wd.eql (lv' := [(0, .ref (mx_ad X 40)), (1, .int text)]) rfl ?_
  refine ro_iload_n F dX6_fault_0 1 rfl ?_
  refine mo_cS (rest := []) F hA (metX6_isText (gx_l g) X m text ) cwX6_108 hdX6_isText rfl (Nat.le_of_ble_eq_true rfl) (Nat.le_of_ble_eq_true rfl) (Nat.le_refl _) (Nat.le_refl _) rfl (Nat.le_of_ble_eq_true rfl) dX6_fault_1 ?_
  have J17_4 : Wd (PicM X) g 2 (if ¬ (text < (nI 0)) ∧ (¬ ((nI 1) < text)) then (fX6_faultOf tl m) else m) 0 0 17 [] [.int (if ¬ (text < (nI 0)) ∧ (¬ ((nI 1) < text)) then (rX6_faultOf text tl m) else (-2))] := by
    exact hret _ _ _ _ _ _ (Nat.le_refl _) (Nat.le_refl _) dX6_fault_17 rfl ⟨congrArg (fun z => some (Value.int z)) (rfl), rfl⟩
  refine ro_if_eqB (tgt := 15) F dX6_fault_4 (by decide) (fun c4 => ?_) (fun c4 => ?_)
  · refine ro_bipush (v := (-2)) F dX6_fault_15 (by decide) ?_
    exact Wd.sub (lv' := []) [] rfl <| Wd.to J17_4 (by simp only [if_neg c4]) rfl (congrArg (fun z => ([Value.int z] : List Value)) (by simp only [if_neg c4]))
  · refine ro_aload_n F dX6_fault_7 0 rfl ?_
    refine ro_iload_n F dX6_fault_8 1 rfl ?_
    refine mo_cV (rest := []) F hA (metX6_faultOf (gx_l g) X m text tl htl ltl) cwX6_138 hdX6_faultOf rfl (Nat.le_of_ble_eq_true rfl) (Nat.le_of_ble_eq_true rfl) (Nat.le_refl _) (Nat.le_refl _) rfl (Nat.le_of_ble_eq_true rfl) dX6_fault_9 ?_
    refine ro_goto (tgt := 17) F dX6_fault_12 (by decide) ?_
    exact Wd.sub (lv' := []) [] rfl <| Wd.to J17_4 (by simp only [if_pos c4]) rfl (congrArg (fun z => ([Value.int z] : List Value)) (by simp only [if_pos c4]))
abbrev rX6_isSaver (k : Int32) (tl : Nat → Nat) (m : Mem) : Prop := ¬ (k < (nI 0)) ∧ (¬ (((nI (nS tl m)) - (nI 1)) < k))
noncomputable def fX6_isSaver (tl : Nat → Nat) (m : Mem) : Mem := (fX6_reads tl m)
theorem fr_fX6_isSaver (tl : Nat → Nat) (m : Mem) (f : Nat) (h2 : f ≠ 2) (h3 : f ≠ 3) (h4 : f ≠ 4) (h5 : f ≠ 5) (h6 : f ≠ 6) (h7 : f ≠ 7) (h8 : f ≠ 8) : fX6_isSaver tl m f = m f := (fr_fX6_reads tl m f h2 h3 h4 h5 h6 h7 h8).trans (rfl)
theorem gv_X6_isSaver_2 (m : Mem) (k : Int32) (tl : Nat → Nat) (htl : ∀ t, t < 2 → m 0 t = nI (tl t)) (ltl : ∀ t, tl t ≤ 31) : fX6_isSaver tl m 2 0 = (nI (nS tl m)) := show (fX6_reads tl m) 2 0 = _ from gv_X6_reads_2 m tl htl ltl
theorem gv_X6_isSaver_6 (m : Mem) (k : Int32) (tl : Nat → Nat) (htl : ∀ t, t < 2 → m 0 t = nI (tl t)) (ltl : ∀ t, tl t ≤ 31) : fX6_isSaver tl m 6 0 = (nI (nP tl m)) := show (fX6_reads tl m) 6 0 = _ from gv_X6_reads_6 m tl htl ltl
set_option maxHeartbeats 4000000 in
set_option maxRecDepth 100000 in
theorem metX6_isSaver (l : Launch) (X : Mx) (m : Mem) (k : Int32) (tl : Nat → Nat) (htl : ∀ t, t < 2 → m 0 t = nI (tl t)) (ltl : ∀ t, tl t ≤ 31) : Cn l yX6_isSaver (ws_ yX6_isSaver cX6_isSaver 2 (some .boolean)) 7 0 0 [.ref (mx_ad X 40), .int k] (PicM X) (KM X) (mx_A X) m (fun rv_ w_ => rv_ = some (.int (b2 (rX6_isSaver k tl m))) ∧ w_ = (fX6_isSaver tl m)) := by
  refine cn_i (own := RX6) rfl (Nat.le_of_ble_eq_true rfl) rfl (fun g hgl hA F hret => ?_)
  refine Wd.eql (lv' := [(0, .ref (mx_ad X 40)), (1, .int k)]) rfl ?_
  refine ro_aload_n F dX6_isSaver_0 0 rfl ?_
  refine mo_cV (rest := []) F hA (metX6_reads (gx_l g) X m tl htl ltl) cwX6_141 hdX6_reads rfl (Nat.le_of_ble_eq_true rfl) (Nat.le_of_ble_eq_true rfl) (Nat.le_refl _) (Nat.le_refl _) rfl (Nat.le_of_ble_eq_true rfl) dX6_isSaver_1 ?_
  refine ro_iload_n F dX6_isSaver_4 1 rfl ?_
  refine ro_iconst (v := (nI 0)) F dX6_isSaver_5 (by decide) ?_
  refine ro_aload_n F dX6_isSaver_6 0 rfl ?_
  have hz := lS tl m
  refine mo_gi F 2 (Nat.le_of_ble_eq_true rfl) rfl lkX6_122 rfl dX6_isSaver_7 (gv_X6_reads_2 m tl htl ltl) ?_
  refine ro_iconst (v := (nI 1)) F dX6_isSaver_10 (by decide) ?_
  refine ro_isub F dX6_isSaver_11 ?_
  refine mo_cS (rest := []) F hA (metX6_in (gx_l g) X (fX6_reads tl m) k (nI 0) ((nI (nS tl m)) - (nI 1)) ) cwX6_104 hdX6_in rfl (Nat.le_of_ble_eq_true rfl) (Nat.le_of_ble_eq_true rfl) (Nat.le_refl _) (Nat.le_refl _) rfl (Nat.le_of_ble_eq_true rfl) dX6_isSaver_12 ?_
  exact hret _ _ _ _ _ _ (Nat.le_refl _) (Nat.le_refl _) dX6_isSaver_15 b2_nar ⟨congrArg (fun z => some (Value.int z)) (b2_congr Iff.rfl), rfl⟩
abbrev rX6_isPartner (p : Int32) (tl : Nat → Nat) (m : Mem) : Prop := ¬ (p < (nI 0)) ∧ (¬ (((nI (nP tl m)) - (nI 1)) < p))
noncomputable def fX6_isPartner (tl : Nat → Nat) (m : Mem) : Mem := (fX6_reads tl m)
theorem fr_fX6_isPartner (tl : Nat → Nat) (m : Mem) (f : Nat) (h2 : f ≠ 2) (h3 : f ≠ 3) (h4 : f ≠ 4) (h5 : f ≠ 5) (h6 : f ≠ 6) (h7 : f ≠ 7) (h8 : f ≠ 8) : fX6_isPartner tl m f = m f := (fr_fX6_reads tl m f h2 h3 h4 h5 h6 h7 h8).trans (rfl)
theorem gv_X6_isPartner_2 (m : Mem) (p : Int32) (tl : Nat → Nat) (htl : ∀ t, t < 2 → m 0 t = nI (tl t)) (ltl : ∀ t, tl t ≤ 31) : fX6_isPartner tl m 2 0 = (nI (nS tl m)) := show (fX6_reads tl m) 2 0 = _ from gv_X6_reads_2 m tl htl ltl
theorem gv_X6_isPartner_6 (m : Mem) (p : Int32) (tl : Nat → Nat) (htl : ∀ t, t < 2 → m 0 t = nI (tl t)) (ltl : ∀ t, tl t ≤ 31) : fX6_isPartner tl m 6 0 = (nI (nP tl m)) := show (fX6_reads tl m) 6 0 = _ from gv_X6_reads_6 m tl htl ltl
set_option maxHeartbeats 4000000 in
set_option maxRecDepth 100000 in
theorem metX6_isPartner (l : Launch) (X : Mx) (m : Mem) (p : Int32) (tl : Nat → Nat) (htl : ∀ t, t < 2 → m 0 t = nI (tl t)) (ltl : ∀ t, tl t ≤ 31) : Cn l yX6_isPartner (ws_ yX6_isPartner cX6_isPartner 2 (some .boolean)) 7 0 0 [.ref (mx_ad X 40), .int p] (PicM X) (KM X) (mx_A X) m (fun rv_ w_ => rv_ = some (.int (b2 (rX6_isPartner p tl m))) ∧ w_ = (fX6_isPartner tl m)) := by
  refine cn_i (own := RX6) rfl (Nat.le_of_ble_eq_true rfl) rfl (fun g hgl hA F hret => ?_)
  refine Wd.eql (lv' := [(0, .ref (mx_ad X 40)), (1, .int p)]) rfl ?_
  refine ro_aload_n F dX6_isPartner_0 0 rfl ?_
  refine mo_cV (rest := []) F hA (metX6_reads (gx_l g) X m tl htl ltl) cwX6_141 hdX6_reads rfl (Nat.le_of_ble_eq_true rfl) (Nat.le_of_ble_eq_true rfl) (Nat.le_refl _) (Nat.le_refl _) rfl (Nat.le_of_ble_eq_true rfl) dX6_isPartner_1 ?_
  refine ro_iload_n F dX6_isPartner_4 1 rfl ?_
  refine ro_iconst (v := (nI 0)) F dX6_isPartner_5 (by decide) ?_
  refine ro_aload_n F dX6_isPartner_6 0 rfl ?_
  have hz := lP tl m
  refine mo_gi F 6 (Nat.le_of_ble_eq_true rfl) rfl lkX6_125 rfl dX6_isPartner_7 (gv_X6_reads_6 m tl htl ltl) ?_
  refine ro_iconst (v := (nI 1)) F dX6_isPartner_10 (by decide) ?_
  refine ro_isub F dX6_isPartner_11 ?_
  refine mo_cS (rest := []) F hA (metX6_in (gx_l g) X (fX6_reads tl m) p (nI 0) ((nI (nP tl m)) - (nI 1)) ) cwX6_104 hdX6_in rfl (Nat.le_of_ble_eq_true rfl) (Nat.le_of_ble_eq_true rfl) (Nat.le_refl _) (Nat.le_refl _) rfl (Nat.le_of_ble_eq_true rfl) dX6_isPartner_12 ?_
  exact hret _ _ _ _ _ _ (Nat.le_refl _) (Nat.le_refl _) dX6_isPartner_15 b2_nar ⟨congrArg (fun z => some (Value.int z)) (b2_congr Iff.rfl), rfl⟩
noncomputable def fX6_asTold (tl : Nat → Nat) (nc : Nat) (nw : Nat) (cd : Nat → Nat) (cs : Nat → Nat) (wd : Nat → Nat) (m : Mem) : Mem := (fX6_lays (nI 0) (nI 0) nc nw cd cs wd (m2 (fX6_reads tl m) 16 0 (m 9 0)))
theorem fr_fX6_asTold (tl : Nat → Nat) (nc : Nat) (nw : Nat) (cd : Nat → Nat) (cs : Nat → Nat) (wd : Nat → Nat) (m : Mem) (f : Nat) (h2 : f ≠ 2) (h3 : f ≠ 3) (h4 : f ≠ 4) (h5 : f ≠ 5) (h6 : f ≠ 6) (h7 : f ≠ 7) (h8 : f ≠ 8) (h16 : f ≠ 16) (h17 : f ≠ 17) (h18 : f ≠ 18) : fX6_asTold tl nc nw cd cs wd m f = m f := (fr_fX6_lays (nI 0) (nI 0) nc nw cd cs wd (m2 (fX6_reads tl m) 16 0 (m 9 0)) f h17 h18).trans ((m2_ff _ _ h16).trans ((fr_fX6_reads tl m f h2 h3 h4 h5 h6 h7 h8).trans (rfl)))
theorem gv_X6_asTold_2 (m : Mem)  (tl : Nat → Nat) (nc : Nat) (nw : Nat) (cd : Nat → Nat) (cs : Nat → Nat) (wd : Nat → Nat) (htl : ∀ t, t < 2 → m 0 t = nI (tl t)) (ltl : ∀ t, tl t ≤ 31) (hnc : m 11 0 = nI nc) (lnc : nc ≤ 8) (hnw : m 14 0 = nI nw) (lnw : nw ≤ 6) (hcd : ∀ j, j < nc → m 12 j = nI (cd j)) (lcd : ∀ j, j < nc → cd j < 20) (hcs : ∀ j, j < nc → m 13 j = nI (cs j)) (lcs : ∀ j, j < nc → cs j < 8) (hwd : ∀ j, j < nw → m 15 j = nI (wd j)) (lwd : ∀ j, j < nw → wd j < 20) : fX6_asTold tl nc nw cd cs wd m 2 0 = (nI (nS tl m)) := show (fX6_lays (nI 0) (nI 0) nc nw cd cs wd (m2 (fX6_reads tl m) 16 0 (m 9 0))) 2 0 = _ from (congrFun (fr_fX6_lays (nI 0) (nI 0) nc nw cd cs wd (m2 (fX6_reads tl m) 16 0 (m 9 0)) 2 (by decide) (by decide)) 0).trans ((m2_f _ _ (by decide)).trans (gv_X6_reads_2 m tl htl ltl))
theorem gv_X6_asTold_6 (m : Mem)  (tl : Nat → Nat) (nc : Nat) (nw : Nat) (cd : Nat → Nat) (cs : Nat → Nat) (wd : Nat → Nat) (htl : ∀ t, t < 2 → m 0 t = nI (tl t)) (ltl : ∀ t, tl t ≤ 31) (hnc : m 11 0 = nI nc) (lnc : nc ≤ 8) (hnw : m 14 0 = nI nw) (lnw : nw ≤ 6) (hcd : ∀ j, j < nc → m 12 j = nI (cd j)) (lcd : ∀ j, j < nc → cd j < 20) (hcs : ∀ j, j < nc → m 13 j = nI (cs j)) (lcs : ∀ j, j < nc → cs j < 8) (hwd : ∀ j, j < nw → m 15 j = nI (wd j)) (lwd : ∀ j, j < nw → wd j < 20) : fX6_asTold tl nc nw cd cs wd m 6 0 = (nI (nP tl m)) := show (fX6_lays (nI 0) (nI 0) nc nw cd cs wd (m2 (fX6_reads tl m) 16 0 (m 9 0))) 6 0 = _ from (congrFun (fr_fX6_lays (nI 0) (nI 0) nc nw cd cs wd (m2 (fX6_reads tl m) 16 0 (m 9 0)) 6 (by decide) (by decide)) 0).trans ((m2_f _ _ (by decide)).trans (gv_X6_reads_6 m tl htl ltl))
set_option maxHeartbeats 4000000 in
set_option maxRecDepth 100000 in
theorem metX6_asTold (l : Launch) (X : Mx) (m : Mem)  (tl : Nat → Nat) (nc : Nat) (nw : Nat) (cd : Nat → Nat) (cs : Nat → Nat) (wd : Nat → Nat) (htl : ∀ t, t < 2 → m 0 t = nI (tl t)) (ltl : ∀ t, tl t ≤ 31) (hnc : m 11 0 = nI nc) (lnc : nc ≤ 8) (hnw : m 14 0 = nI nw) (lnw : nw ≤ 6) (hcd : ∀ j, j < nc → m 12 j = nI (cd j)) (lcd : ∀ j, j < nc → cd j < 20) (hcs : ∀ j, j < nc → m 13 j = nI (cs j)) (lcs : ∀ j, j < nc → cs j < 8) (hwd : ∀ j, j < nw → m 15 j = nI (wd j)) (lwd : ∀ j, j < nw → wd j < 20) : Cn l yX6_asTold (ws_ yX6_asTold cX6_asTold 1 none) 7 0 0 [.ref (mx_ad X 40)] (PicM X) (KM X) (mx_A X) m (fun rv_ w_ => rv_ = none ∧ w_ = (fX6_asTold tl nc nw cd cs wd m)) := by
  refine cn_v (own := RX6) rfl (Nat.le_of_ble_eq_true rfl) rfl (fun g hgl hA F hret => ?_)
  refine Wd.eql (lv' := [(0, .ref (mx_ad X 40))]) rfl ?_
  refine ro_aload_n F dX6_asTold_0 0 rfl ?_
  refine mo_cV (rest := []) F hA (metX6_reads (gx_l g) X m tl htl ltl) cwX6_141 hdX6_reads rfl (Nat.le_of_ble_eq_true rfl) (Nat.le_of_ble_eq_true rfl) (Nat.le_refl _) (Nat.le_refl _) rfl (Nat.le_of_ble_eq_true rfl) dX6_asTold_1 ?_
  refine ro_aload_n F dX6_asTold_4 0 rfl ?_
  refine ro_aload_n F dX6_asTold_5 0 rfl ?_
  refine mo_gi F 9 (Nat.le_of_ble_eq_true rfl) rfl lkX6_95 rfl dX6_asTold_6 (congrFun (fr_fX6_reads tl m 9 (by decide) (by decide) (by decide) (by decide) (by decide) (by decide) (by decide)) 0) ?_
  refine mo_put F hA 16 (Nat.le_of_ble_eq_true rfl) rfl rfl rfl lkX6_178 rfl dX6_asTold_9 ?_
  refine ro_aload_n F dX6_asTold_12 0 rfl ?_
  refine ro_iconst (v := (nI 0)) F dX6_asTold_13 (by decide) ?_
  refine ro_iconst (v := (nI 0)) F dX6_asTold_14 (by decide) ?_
  refine mo_cV (rest := []) F hA (metX6_lays (gx_l g) X (m2 (fX6_reads tl m) 16 0 (m 9 0)) (nI 0) (nI 0) nc nw cd cs wd ((m2_f _ _ (by decide)).trans ((congrFun (fr_fX6_reads tl m 11 (by decide) (by decide) (by decide) (by decide) (by decide) (by decide) (by decide)) 0).trans (hnc))) (by omega) ((m2_f _ _ (by decide)).trans ((congrFun (fr_fX6_reads tl m 14 (by decide) (by decide) (by decide) (by decide) (by decide) (by decide) (by decide)) 0).trans (hnw))) (by omega) (by rw [show (m2 (fX6_reads tl m) 16 0 (m 9 0)) 12 = _ from (m2_ff _ _ (by decide)).trans (fr_fX6_reads tl m 12 (by decide) (by decide) (by decide) (by decide) (by decide) (by decide) (by decide))]; exact hcd) lcd (by rw [show (m2 (fX6_reads tl m) 16 0 (m 9 0)) 13 = _ from (m2_ff _ _ (by decide)).trans (fr_fX6_reads tl m 13 (by decide) (by decide) (by decide) (by decide) (by decide) (by decide) (by decide))]; exact hcs) lcs (by rw [show (m2 (fX6_reads tl m) 16 0 (m 9 0)) 15 = _ from (m2_ff _ _ (by decide)).trans (fr_fX6_reads tl m 15 (by decide) (by decide) (by decide) (by decide) (by decide) (by decide) (by decide))]; exact hwd) lwd) cwX6_181 hdX6_lays rfl (Nat.le_of_ble_eq_true rfl) (Nat.le_of_ble_eq_true rfl) (Nat.le_refl _) (Nat.le_refl _) rfl (Nat.le_of_ble_eq_true rfl) dX6_asTold_15 ?_
  exact hret _ _ _ _ _ (Nat.le_refl _) (Nat.le_refl _) dX6_asTold_18 ⟨rfl, rfl⟩
noncomputable def fX6_runsTold (tl : Nat → Nat) (nc : Nat) (nw : Nat) (cd : Nat → Nat) (cs : Nat → Nat) (wd : Nat → Nat) (m : Mem) : Mem := (fX6_runs (nP tl m) (nS tl m) (fX6_asTold tl nc nw cd cs wd m))
theorem fr_fX6_runsTold (tl : Nat → Nat) (nc : Nat) (nw : Nat) (cd : Nat → Nat) (cs : Nat → Nat) (wd : Nat → Nat) (m : Mem) (f : Nat) (h2 : f ≠ 2) (h3 : f ≠ 3) (h4 : f ≠ 4) (h5 : f ≠ 5) (h6 : f ≠ 6) (h7 : f ≠ 7) (h8 : f ≠ 8) (h16 : f ≠ 16) (h17 : f ≠ 17) (h18 : f ≠ 18) (h19 : f ≠ 19) (h20 : f ≠ 20) (h21 : f ≠ 21) (h22 : f ≠ 22) (h23 : f ≠ 23) (h24 : f ≠ 24) (h25 : f ≠ 25) (h26 : f ≠ 26) (h27 : f ≠ 27) : fX6_runsTold tl nc nw cd cs wd m f = m f := (fr_fX6_runs (nP tl m) (nS tl m) (fX6_asTold tl nc nw cd cs wd m) f h19 h20 h21 h22 h23 h24 h25 h26 h27).trans ((fr_fX6_asTold tl nc nw cd cs wd m f h2 h3 h4 h5 h6 h7 h8 h16 h17 h18).trans (rfl))
theorem gv_X6_runsTold_2 (m : Mem)  (tl : Nat → Nat) (nc : Nat) (nw : Nat) (cd : Nat → Nat) (cs : Nat → Nat) (wd : Nat → Nat) (htl : ∀ t, t < 2 → m 0 t = nI (tl t)) (ltl : ∀ t, tl t ≤ 31) (hnc : m 11 0 = nI nc) (lnc : nc ≤ 8) (hnw : m 14 0 = nI nw) (lnw : nw ≤ 6) (hcd : ∀ j, j < nc → m 12 j = nI (cd j)) (lcd : ∀ j, j < nc → cd j < 20) (hcs : ∀ j, j < nc → m 13 j = nI (cs j)) (lcs : ∀ j, j < nc → cs j < 8) (hwd : ∀ j, j < nw → m 15 j = nI (wd j)) (lwd : ∀ j, j < nw → wd j < 20) : fX6_runsTold tl nc nw cd cs wd m 2 0 = (nI (nS tl m)) := show (fX6_runs (nP tl m) (nS tl m) (fX6_asTold tl nc nw cd cs wd m)) 2 0 = _ from (congrFun (fr_fX6_runs (nP tl m) (nS tl m) (fX6_asTold tl nc nw cd cs wd m) 2 (by decide) (by decide) (by decide) (by decide) (by decide) (by decide) (by decide) (by decide) (by decide)) 0).trans (gv_X6_asTold_2 m tl nc nw cd cs wd htl ltl hnc (by omega) hnw (by omega) hcd lcd hcs lcs hwd lwd)
theorem gv_X6_runsTold_6 (m : Mem)  (tl : Nat → Nat) (nc : Nat) (nw : Nat) (cd : Nat → Nat) (cs : Nat → Nat) (wd : Nat → Nat) (htl : ∀ t, t < 2 → m 0 t = nI (tl t)) (ltl : ∀ t, tl t ≤ 31) (hnc : m 11 0 = nI nc) (lnc : nc ≤ 8) (hnw : m 14 0 = nI nw) (lnw : nw ≤ 6) (hcd : ∀ j, j < nc → m 12 j = nI (cd j)) (lcd : ∀ j, j < nc → cd j < 20) (hcs : ∀ j, j < nc → m 13 j = nI (cs j)) (lcs : ∀ j, j < nc → cs j < 8) (hwd : ∀ j, j < nw → m 15 j = nI (wd j)) (lwd : ∀ j, j < nw → wd j < 20) : fX6_runsTold tl nc nw cd cs wd m 6 0 = (nI (nP tl m)) := show (fX6_runs (nP tl m) (nS tl m) (fX6_asTold tl nc nw cd cs wd m)) 6 0 = _ from (congrFun (fr_fX6_runs (nP tl m) (nS tl m) (fX6_asTold tl nc nw cd cs wd m) 6 (by decide) (by decide) (by decide) (by decide) (by decide) (by decide) (by decide) (by decide) (by decide)) 0).trans (gv_X6_asTold_6 m tl nc nw cd cs wd htl ltl hnc (by omega) hnw (by omega) hcd lcd hcs lcs hwd lwd)
set_option maxHeartbeats 4000000 in
set_option maxRecDepth 100000 in
theorem metX6_runsTold (l : Launch) (X : Mx) (m : Mem)  (tl : Nat → Nat) (nc : Nat) (nw : Nat) (cd : Nat → Nat) (cs : Nat → Nat) (wd : Nat → Nat) (htl : ∀ t, t < 2 → m 0 t = nI (tl t)) (ltl : ∀ t, tl t ≤ 31) (hnc : m 11 0 = nI nc) (lnc : nc ≤ 8) (hnw : m 14 0 = nI nw) (lnw : nw ≤ 6) (hcd : ∀ j, j < nc → m 12 j = nI (cd j)) (lcd : ∀ j, j < nc → cd j < 20) (hcs : ∀ j, j < nc → m 13 j = nI (cs j)) (lcs : ∀ j, j < nc → cs j < 8) (hwd : ∀ j, j < nw → m 15 j = nI (wd j)) (lwd : ∀ j, j < nw → wd j < 20) : Cn l yX6_runsTold (ws_ yX6_runsTold cX6_runsTold 1 none) 8 0 0 [.ref (mx_ad X 40)] (PicM X) (KM X) (mx_A X) m (fun rv_ w_ => rv_ = none ∧ w_ = (fX6_runsTold tl nc nw cd cs wd m)) := by
  refine cn_v (own := RX6) rfl (Nat.le_of_ble_eq_true rfl) rfl (fun g hgl hA F hret => ?_)
  refine Wd.eql (lv' := [(0, .ref (mx_ad X 40))]) rfl ?_
  refine ro_aload_n F dX6_runsTold_0 0 rfl ?_
  refine mo_cV (rest := []) F hA (metX6_asTold (gx_l g) X m tl nc nw cd cs wd htl ltl hnc (by omega) hnw (by omega) hcd lcd hcs lcs hwd lwd) cwX6_201 hdX6_asTold rfl (Nat.le_of_ble_eq_true rfl) (Nat.le_of_ble_eq_true rfl) (Nat.le_refl _) (Nat.le_refl _) rfl (Nat.le_of_ble_eq_true rfl) dX6_runsTold_1 ?_
  refine ro_aload_n F dX6_runsTold_4 0 rfl ?_
  have hz := lP tl m
  have hz := lS tl m
  refine mo_cV (rest := []) F hA (metX6_runs (gx_l g) X (fX6_asTold tl nc nw cd cs wd m) (nP tl m) (nS tl m) (gv_X6_asTold_6 m tl nc nw cd cs wd htl ltl hnc (by omega) hnw (by omega) hcd lcd hcs lcs hwd lwd) (by omega) (gv_X6_asTold_2 m tl nc nw cd cs wd htl ltl hnc (by omega) hnw (by omega) hcd lcd hcs lcs hwd lwd) (by omega)) cwX6_204 hdX6_runs rfl (Nat.le_of_ble_eq_true rfl) (Nat.le_of_ble_eq_true rfl) (Nat.le_refl _) (Nat.le_refl _) rfl (Nat.le_of_ble_eq_true rfl) dX6_runsTold_5 ?_
  exact hret _ _ _ _ _ (Nat.le_refl _) (Nat.le_refl _) dX6_runsTold_8 ⟨rfl, rfl⟩
noncomputable def rX6_set (what : Int32) (v : Int32) (m : Mem) : Int32 := (if ¬ (what < (nI 0)) ∧ (¬ ((nI 1) < what)) then (if ¬ (v < (nI 0)) ∧ (¬ ((nI (if what = 0 then 9 else 999)) < v)) then (if what = 0 then (m 9 0) else (m 10 0)) else (-2)) else (-2))
noncomputable def fX6_set (what : Int32) (v : Int32) (m : Mem) : Mem := (if ¬ (what < (nI 0)) ∧ (¬ ((nI 1) < what)) then (if ¬ (v < (nI 0)) ∧ (¬ ((nI (if what = 0 then 9 else 999)) < v)) then (m2 (m2 m 9 0 (if what = 0 then v else (m 9 0))) 10 0 (if what = (nI 1) then v else (m 10 0))) else m) else m)
theorem fr_fX6_set (what : Int32) (v : Int32) (m : Mem) (f : Nat) (h9 : f ≠ 9) (h10 : f ≠ 10) : fX6_set what v m f = m f := ite_fr (ite_fr ((m2_ff _ _ h10).trans ((m2_ff _ _ h9).trans (rfl))) (rfl)) (rfl)
set_option maxHeartbeats 4000000 in
set_option maxRecDepth 100000 in
theorem metX6_set (l : Launch) (X : Mx) (m : Mem) (what : Int32) (v : Int32)   : Cn l yX6_set (ws_ yX6_set cX6_set 4 (some .int)) 2 0 0 [.ref (mx_ad X 40), .int what, .int v] (PicM X) (KM X) (mx_A X) m (fun rv_ w_ => rv_ = some (.int (rX6_set what v m)) ∧ w_ = (fX6_set what v m)) := by
  refine cn_i (own := RX6) rfl (Nat.le_of_ble_eq_true rfl) rfl (fun g hgl hA F hret => ?_)
  refine Wd.eql (lv' := [(0, .ref (mx_ad X 40)), (1, .int what), (2, .int v)]) rfl ?_
  refine ro_iload_n F dX6_set_0 1 rfl ?_
  refine ro_iconst (v := (nI 0)) F dX6_set_1 (by decide) ?_
  refine ro_iconst (v := (nI 1)) F dX6_set_2 (by decide) ?_
  refine mo_cS (rest := []) F hA (metX6_in (gx_l g) X m what (nI 0) (nI 1) ) cwX6_104 hdX6_in rfl (Nat.le_of_ble_eq_true rfl) (Nat.le_of_ble_eq_true rfl) (Nat.le_refl _) (Nat.le_refl _) rfl (Nat.le_of_ble_eq_true rfl) dX6_set_3 ?_
  refine ro_if_eqB (tgt := 29) F dX6_set_6 (by decide) (fun c6 => ?_) (fun c6 => ?_)
  · refine ro_bipush (v := (-2)) F dX6_set_29 (by decide) ?_
    exact hret _ _ _ _ _ _ (Nat.le_refl _) (Nat.le_refl _) dX6_set_31 rfl ⟨congrArg (fun z => some (Value.int z)) (by simp only [rX6_set, if_neg c6]), (by simp only [fX6_set, if_neg c6])⟩
  · refine ro_iload_n F dX6_set_9 2 rfl ?_
    refine ro_iconst (v := (nI 0)) F dX6_set_10 (by decide) ?_
    refine ro_iload_n F dX6_set_11 1 rfl ?_
    have J23_12 : Wd (PicM X) g 4 m 0 0 23 [(0, .ref (mx_ad X 40)), (1, .int what), (2, .int v)] [.int (nI (if what = 0 then 9 else 999)), .int (nI 0), .int v] := by
      refine mo_cS (rest := []) F hA (metX6_in (gx_l g) X m v (nI 0) (nI (if what = 0 then 9 else 999)) ) cwX6_104 hdX6_in rfl (Nat.le_of_ble_eq_true rfl) (Nat.le_of_ble_eq_true rfl) (Nat.le_refl _) (Nat.le_refl _) rfl (Nat.le_of_ble_eq_true rfl) dX6_set_23 ?_
      refine ro_if_neB (tgt := 32) F dX6_set_26 (by decide) (fun c26 => ?_) (fun c26 => ?_)
      · refine ro_iload_n F dX6_set_32 1 rfl ?_
        have J47_33 : Wd (PicM X) g 4 m 0 0 47 [(0, .ref (mx_ad X 40)), (1, .int what), (2, .int v)] [.int (if what = 0 then (m 9 0) else (m 10 0))] := by
          refine ro_istore_n (lv' := [(0, .ref (mx_ad X 40)), (1, .int what), (2, .int v), (3, .int (if what = 0 then (m 9 0) else (m 10 0)))]) F dX6_set_47 (Nat.le_of_ble_eq_true rfl) [1, 2, 3, 0] rfl ?_
          refine ro_aload_n F dX6_set_48 0 rfl ?_
          refine ro_iload_n F dX6_set_49 1 rfl ?_
          have J61_50 : Wd (PicM X) g 4 m 0 0 61 [(0, .ref (mx_ad X 40)), (1, .int what), (2, .int v), (3, .int (if what = 0 then (m 9 0) else (m 10 0)))] [.int (if what = 0 then v else (m 9 0)), .ref (mx_ad X 40)] := by
            refine mo_put F hA 9 (Nat.le_of_ble_eq_true rfl) rfl rfl rfl lkX6_95 rfl dX6_set_61 ?_
            refine ro_aload_n F dX6_set_64 0 rfl ?_
            refine ro_iload_n F dX6_set_65 1 rfl ?_
            refine ro_iconst (v := (nI 1)) F dX6_set_66 (by decide) ?_
            have J78_67 : Wd (PicM X) g 4 (m2 m 9 0 (if what = 0 then v else (m 9 0))) 0 0 78 [(3, .int (if what = 0 then (m 9 0) else (m 10 0)))] [.int (if what = (nI 1) then v else (m 10 0)), .ref (mx_ad X 40)] := by
              refine mo_put F hA 10 (Nat.le_of_ble_eq_true rfl) rfl rfl rfl lkX6_99 rfl dX6_set_78 ?_
              refine ro_iload_n F dX6_set_81 0 rfl ?_
              exact hret _ _ _ _ _ _ (Nat.le_refl _) (Nat.le_refl _) dX6_set_82 rfl ⟨congrArg (fun z => some (Value.int z)) (by simp only [rX6_set, if_pos c6, if_pos c26]), (by simp only [fX6_set, if_pos c6, if_pos c26])⟩
            refine ro_icmp_ne (tgt := 74) F dX6_set_67 (by decide) (fun c67 => ?_) (fun c67 => ?_)
            · refine ro_aload_n F dX6_set_74 0 rfl ?_
              refine mo_gi F 10 (Nat.le_of_ble_eq_true rfl) rfl lkX6_99 rfl dX6_set_75 (m2_f _ _ (by decide)) ?_
              exact Wd.sub (lv' := [(3, .int (if what = 0 then (m 9 0) else (m 10 0)))]) [3] rfl <| Wd.to J78_67 rfl rfl (congrArg (fun z => ([Value.int z, .ref (mx_ad X 40)] : List Value)) (by simp only [if_neg c67]))
            · refine ro_iload_n F dX6_set_70 2 rfl ?_
              refine ro_goto (tgt := 78) F dX6_set_71 (by decide) ?_
              exact Wd.sub (lv' := [(3, .int (if what = 0 then (m 9 0) else (m 10 0)))]) [3] rfl <| Wd.to J78_67 rfl rfl (congrArg (fun z => ([Value.int z, .ref (mx_ad X 40)] : List Value)) (by simp only [if_pos c67]))
          refine ro_if_ne (tgt := 57) F dX6_set_50 (by decide) (fun c50 => ?_) (fun c50 => ?_)
          · refine ro_aload_n F dX6_set_57 0 rfl ?_
            refine mo_gi F 9 (Nat.le_of_ble_eq_true rfl) rfl lkX6_95 rfl dX6_set_58 rfl ?_
            exact Wd.to J61_50 rfl rfl (congrArg (fun z => ([Value.int z, .ref (mx_ad X 40)] : List Value)) (by simp only [if_neg c50]))
          · refine ro_iload_n F dX6_set_53 2 rfl ?_
            refine ro_goto (tgt := 61) F dX6_set_54 (by decide) ?_
            exact Wd.to J61_50 rfl rfl (congrArg (fun z => ([Value.int z, .ref (mx_ad X 40)] : List Value)) (by simp only [if_pos c50]))
        refine ro_if_ne (tgt := 43) F dX6_set_33 (by decide) (fun c33 => ?_) (fun c33 => ?_)
        · refine ro_aload_n F dX6_set_43 0 rfl ?_
          refine mo_gi F 10 (Nat.le_of_ble_eq_true rfl) rfl lkX6_99 rfl dX6_set_44 rfl ?_
          exact Wd.to J47_33 rfl rfl (congrArg (fun z => ([Value.int z] : List Value)) (by simp only [if_neg c33]))
        · refine ro_aload_n F dX6_set_36 0 rfl ?_
          refine mo_gi F 9 (Nat.le_of_ble_eq_true rfl) rfl lkX6_95 rfl dX6_set_37 rfl ?_
          refine ro_goto (tgt := 47) F dX6_set_40 (by decide) ?_
          exact Wd.to J47_33 rfl rfl (congrArg (fun z => ([Value.int z] : List Value)) (by simp only [if_pos c33]))
      · refine ro_bipush (v := (-2)) F dX6_set_29 (by decide) ?_
        exact hret _ _ _ _ _ _ (Nat.le_refl _) (Nat.le_refl _) dX6_set_31 rfl ⟨congrArg (fun z => some (Value.int z)) (by simp only [rX6_set, if_pos c6, if_neg c26]), (by simp only [fX6_set, if_pos c6, if_neg c26])⟩
    refine ro_if_ne (tgt := 20) F dX6_set_12 (by decide) (fun c12 => ?_) (fun c12 => ?_)
    · refine ro_sipush (v := (nI 999)) F dX6_set_20 (by decide) ?_
      exact Wd.to J23_12 rfl rfl (congrArg (fun z => ([Value.int z, .int (nI 0), .int v] : List Value)) (congrArg nI (by simp only [if_neg c12])))
    · refine ro_bipush (v := (nI 9)) F dX6_set_15 (by decide) ?_
      refine ro_goto (tgt := 23) F dX6_set_17 (by decide) ?_
      exact Wd.to J23_12 rfl rfl (congrArg (fun z => ([Value.int z, .int (nI 0), .int v] : List Value)) (congrArg nI (by simp only [if_pos c12])))
noncomputable def rX6_saver (k : Nat) (what : Int32) (tl : Nat → Nat) (m : Mem) : Int32 := (if ¬ (what < (nI 0)) ∧ (¬ ((nI 2) < what)) then (rX6_saverOf k what (fX6_isSaver tl m)) else (-2))
noncomputable def fX6_saver (tl : Nat → Nat) (m : Mem) : Mem := (fX6_isSaver tl m)
theorem fr_fX6_saver (tl : Nat → Nat) (m : Mem) (f : Nat) (h2 : f ≠ 2) (h3 : f ≠ 3) (h4 : f ≠ 4) (h5 : f ≠ 5) (h6 : f ≠ 6) (h7 : f ≠ 7) (h8 : f ≠ 8) : fX6_saver tl m f = m f := (fr_fX6_isSaver tl m f h2 h3 h4 h5 h6 h7 h8).trans (rfl)
set_option maxHeartbeats 4000000 in
set_option maxRecDepth 100000 in
theorem metX6_saver (l : Launch) (X : Mx) (m : Mem) (k : Nat) (what : Int32) (tl : Nat → Nat) (htl : ∀ t, t < 2 → m 0 t = nI (tl t)) (ltl : ∀ t, tl t ≤ 31) (hk : k < nS tl m) : Cn l yX6_saver (ws_ yX6_saver cX6_saver 3 (some .int)) 8 0 0 [.ref (mx_ad X 40), .int (nI k), .int what] (PicM X) (KM X) (mx_A X) m (fun rv_ w_ => rv_ = some (.int (rX6_saver k what tl m)) ∧ w_ = (fX6_saver tl m)) := by
  refine cn_i (own := RX6) rfl (Nat.le_of_ble_eq_true rfl) rfl (fun g hgl hA F hret => ?_)
  refine Wd.eql (lv' := [(0, .ref (mx_ad X 40)), (1, .int (nI k)), (2, .int what)]) rfl ?_
  have hzS := lS tl m
  refine ro_aload_n F dX6_saver_0 0 rfl ?_
  refine ro_iload_n F dX6_saver_1 1 rfl ?_
  refine mo_cV (rest := []) F hA (metX6_isSaver (gx_l g) X m (nI k) tl htl ltl) cwX6_144 hdX6_isSaver rfl (Nat.le_of_ble_eq_true rfl) (Nat.le_of_ble_eq_true rfl) (Nat.le_refl _) (Nat.le_refl _) rfl (Nat.le_of_ble_eq_true rfl) dX6_saver_2 ?_
  refine ro_if_eqB (tgt := 26) F dX6_saver_5 (by decide) (fun c5 => absurd (isv_ok hk (Nat.le_trans (lS _ _) (by decide))) c5) (fun c5 => ?_)
  refine ro_iload_n F dX6_saver_8 2 rfl ?_
  refine ro_iconst (v := (nI 0)) F dX6_saver_9 (by decide) ?_
  refine ro_iconst (v := (nI 2)) F dX6_saver_10 (by decide) ?_
  refine mo_cS (rest := []) F hA (metX6_in (gx_l g) X (fX6_isSaver tl m) what (nI 0) (nI 2) ) cwX6_104 hdX6_in rfl (Nat.le_of_ble_eq_true rfl) (Nat.le_of_ble_eq_true rfl) (Nat.le_refl _) (Nat.le_refl _) rfl (Nat.le_of_ble_eq_true rfl) dX6_saver_11 ?_
  have J28_14 : Wd (PicM X) g 3 (fX6_isSaver tl m) 0 0 28 [] [.int (if ¬ (what < (nI 0)) ∧ (¬ ((nI 2) < what)) then (rX6_saverOf k what (fX6_isSaver tl m)) else (-2))] := by
    exact hret _ _ _ _ _ _ (Nat.le_refl _) (Nat.le_refl _) dX6_saver_28 rfl ⟨congrArg (fun z => some (Value.int z)) (rfl), rfl⟩
  refine ro_if_eqB (tgt := 26) F dX6_saver_14 (by decide) (fun c14 => ?_) (fun c14 => ?_)
  · refine ro_bipush (v := (-2)) F dX6_saver_26 (by decide) ?_
    exact Wd.sub (lv' := []) [] rfl <| Wd.to J28_14 rfl rfl (congrArg (fun z => ([Value.int z] : List Value)) (by simp only [if_neg c14]))
  · refine ro_aload_n F dX6_saver_17 0 rfl ?_
    refine ro_iload_n F dX6_saver_18 1 rfl ?_
    refine ro_iload_n F dX6_saver_19 2 rfl ?_
    refine mo_cV (rest := []) F hA (metX6_saverOf (gx_l g) X (fX6_isSaver tl m) k what (by omega)) cwX6_147 hdX6_saverOf rfl (Nat.le_of_ble_eq_true rfl) (Nat.le_of_ble_eq_true rfl) (Nat.le_refl _) (Nat.le_refl _) rfl (Nat.le_of_ble_eq_true rfl) dX6_saver_20 ?_
    refine ro_goto (tgt := 28) F dX6_saver_23 (by decide) ?_
    exact Wd.sub (lv' := []) [] rfl <| Wd.to J28_14 rfl rfl (congrArg (fun z => ([Value.int z] : List Value)) (by simp only [if_pos c14]))
noncomputable def fX6_saver_no (tl : Nat → Nat) (m : Mem) : Mem := (fX6_isSaver tl m)
theorem fr_fX6_saver_no (tl : Nat → Nat) (m : Mem) (f : Nat) (h2 : f ≠ 2) (h3 : f ≠ 3) (h4 : f ≠ 4) (h5 : f ≠ 5) (h6 : f ≠ 6) (h7 : f ≠ 7) (h8 : f ≠ 8) : fX6_saver_no tl m f = m f := (fr_fX6_isSaver tl m f h2 h3 h4 h5 h6 h7 h8).trans (rfl)
set_option maxHeartbeats 4000000 in
set_option maxRecDepth 100000 in
theorem metX6_saver_no (l : Launch) (X : Mx) (m : Mem) (k : Int32) (what : Int32) (tl : Nat → Nat) (htl : ∀ t, t < 2 → m 0 t = nI (tl t)) (ltl : ∀ t, tl t ≤ 31) (hb : ¬ rX6_isSaver k tl m) : Cn l yX6_saver (ws_ yX6_saver cX6_saver 3 (some .int)) 8 0 0 [.ref (mx_ad X 40), .int k, .int what] (PicM X) (KM X) (mx_A X) m (fun rv_ w_ => rv_ = some (.int (-2)) ∧ w_ = (fX6_saver_no tl m)) := by
  refine cn_i (own := RX6) rfl (Nat.le_of_ble_eq_true rfl) rfl (fun g hgl hA F hret => ?_)
  refine Wd.eql (lv' := [(0, .ref (mx_ad X 40)), (1, .int k), (2, .int what)]) rfl ?_
  refine ro_aload_n F dX6_saver_0 0 rfl ?_
  refine ro_iload_n F dX6_saver_1 1 rfl ?_
  refine mo_cV (rest := []) F hA (metX6_isSaver (gx_l g) X m k tl htl ltl) cwX6_144 hdX6_isSaver rfl (Nat.le_of_ble_eq_true rfl) (Nat.le_of_ble_eq_true rfl) (Nat.le_refl _) (Nat.le_refl _) rfl (Nat.le_of_ble_eq_true rfl) dX6_saver_2 ?_
  refine ro_if_eqB (tgt := 26) F dX6_saver_5 (by decide) (fun c5 => ?_) (fun c5 => absurd c5 hb)
  refine ro_bipush (v := (-2)) F dX6_saver_26 (by decide) ?_
  exact hret _ _ _ _ _ _ (Nat.le_refl _) (Nat.le_refl _) dX6_saver_28 rfl ⟨rfl, rfl⟩
noncomputable def rX6_partner (p : Nat) (what : Int32) (tl : Nat → Nat) (m : Mem) : Int32 := (if ¬ (what < (nI 0)) ∧ (¬ ((nI 1) < what)) then (if what = 0 then ((fX6_isPartner tl m) 7 p) else ((fX6_isPartner tl m) 8 p)) else (-2))
noncomputable def fX6_partner (tl : Nat → Nat) (m : Mem) : Mem := (fX6_isPartner tl m)
theorem fr_fX6_partner (tl : Nat → Nat) (m : Mem) (f : Nat) (h2 : f ≠ 2) (h3 : f ≠ 3) (h4 : f ≠ 4) (h5 : f ≠ 5) (h6 : f ≠ 6) (h7 : f ≠ 7) (h8 : f ≠ 8) : fX6_partner tl m f = m f := (fr_fX6_isPartner tl m f h2 h3 h4 h5 h6 h7 h8).trans (rfl)
set_option maxHeartbeats 4000000 in
set_option maxRecDepth 100000 in
theorem metX6_partner (l : Launch) (X : Mx) (m : Mem) (p : Nat) (what : Int32) (tl : Nat → Nat) (htl : ∀ t, t < 2 → m 0 t = nI (tl t)) (ltl : ∀ t, tl t ≤ 31) (hp : p < nP tl m) : Cn l yX6_partner (ws_ yX6_partner cX6_partner 3 (some .int)) 8 0 0 [.ref (mx_ad X 40), .int (nI p), .int what] (PicM X) (KM X) (mx_A X) m (fun rv_ w_ => rv_ = some (.int (rX6_partner p what tl m)) ∧ w_ = (fX6_partner tl m)) := by
  refine cn_i (own := RX6) rfl (Nat.le_of_ble_eq_true rfl) rfl (fun g hgl hA F hret => ?_)
  refine Wd.eql (lv' := [(0, .ref (mx_ad X 40)), (1, .int (nI p)), (2, .int what)]) rfl ?_
  have hzP := lP tl m
  refine ro_aload_n F dX6_partner_0 0 rfl ?_
  refine ro_iload_n F dX6_partner_1 1 rfl ?_
  refine mo_cV (rest := []) F hA (metX6_isPartner (gx_l g) X m (nI p) tl htl ltl) cwX6_150 hdX6_isPartner rfl (Nat.le_of_ble_eq_true rfl) (Nat.le_of_ble_eq_true rfl) (Nat.le_refl _) (Nat.le_refl _) rfl (Nat.le_of_ble_eq_true rfl) dX6_partner_2 ?_
  refine ro_if_eqB (tgt := 39) F dX6_partner_5 (by decide) (fun c5 => absurd (isv_ok hp (Nat.le_trans (lP _ _) (by decide))) c5) (fun c5 => ?_)
  refine ro_iload_n F dX6_partner_8 2 rfl ?_
  refine ro_iconst (v := (nI 0)) F dX6_partner_9 (by decide) ?_
  refine ro_iconst (v := (nI 1)) F dX6_partner_10 (by decide) ?_
  refine mo_cS (rest := []) F hA (metX6_in (gx_l g) X (fX6_isPartner tl m) what (nI 0) (nI 1) ) cwX6_104 hdX6_in rfl (Nat.le_of_ble_eq_true rfl) (Nat.le_of_ble_eq_true rfl) (Nat.le_refl _) (Nat.le_refl _) rfl (Nat.le_of_ble_eq_true rfl) dX6_partner_11 ?_
  have J41_14 : Wd (PicM X) g 3 (fX6_isPartner tl m) 0 0 41 [] [.int (if ¬ (what < (nI 0)) ∧ (¬ ((nI 1) < what)) then (if what = 0 then ((fX6_isPartner tl m) 7 p) else ((fX6_isPartner tl m) 8 p)) else (-2))] := by
    exact hret _ _ _ _ _ _ (Nat.le_refl _) (Nat.le_refl _) dX6_partner_41 rfl ⟨congrArg (fun z => some (Value.int z)) (rfl), rfl⟩
  refine ro_if_eqB (tgt := 39) F dX6_partner_14 (by decide) (fun c14 => ?_) (fun c14 => ?_)
  · refine ro_bipush (v := (-2)) F dX6_partner_39 (by decide) ?_
    exact Wd.sub (lv' := []) [] rfl <| Wd.to J41_14 rfl rfl (congrArg (fun z => ([Value.int z] : List Value)) (by simp only [if_neg c14]))
  · refine ro_iload_n F dX6_partner_17 2 rfl ?_
    refine ro_if_ne (tgt := 30) F dX6_partner_18 (by decide) (fun c18 => ?_) (fun c18 => ?_)
    · refine ro_aload_n F dX6_partner_30 0 rfl ?_
      refine mo_gr F 8 (Nat.le_of_ble_eq_true rfl) (by decide) lkX6_28 rfl dX6_partner_31 ?_
      refine ro_iload_n F dX6_partner_34 1 rfl ?_
      refine mo_ldN F 8 9 rfl (by decide) (by decide) rfl (by omega) dX6_partner_35 rfl ?_
      refine ro_goto (tgt := 41) F dX6_partner_36 (by decide) ?_
      exact Wd.sub (lv' := []) [] rfl <| Wd.to J41_14 rfl rfl (congrArg (fun z => ([Value.int z] : List Value)) (by simp only [if_pos c14, if_neg c18]))
    · refine ro_aload_n F dX6_partner_21 0 rfl ?_
      refine mo_gr F 7 (Nat.le_of_ble_eq_true rfl) (by decide) lkX6_25 rfl dX6_partner_22 ?_
      refine ro_iload_n F dX6_partner_25 1 rfl ?_
      refine mo_ldN F 7 9 rfl (by decide) (by decide) rfl (by omega) dX6_partner_26 rfl ?_
      refine ro_goto (tgt := 41) F dX6_partner_27 (by decide) ?_
      exact Wd.sub (lv' := []) [] rfl <| Wd.to J41_14 rfl rfl (congrArg (fun z => ([Value.int z] : List Value)) (by simp only [if_pos c14, if_pos c18]))
noncomputable def fX6_partner_no (tl : Nat → Nat) (m : Mem) : Mem := (fX6_isPartner tl m)
theorem fr_fX6_partner_no (tl : Nat → Nat) (m : Mem) (f : Nat) (h2 : f ≠ 2) (h3 : f ≠ 3) (h4 : f ≠ 4) (h5 : f ≠ 5) (h6 : f ≠ 6) (h7 : f ≠ 7) (h8 : f ≠ 8) : fX6_partner_no tl m f = m f := (fr_fX6_isPartner tl m f h2 h3 h4 h5 h6 h7 h8).trans (rfl)
set_option maxHeartbeats 4000000 in
set_option maxRecDepth 100000 in
theorem metX6_partner_no (l : Launch) (X : Mx) (m : Mem) (p : Int32) (what : Int32) (tl : Nat → Nat) (htl : ∀ t, t < 2 → m 0 t = nI (tl t)) (ltl : ∀ t, tl t ≤ 31) (hb : ¬ rX6_isPartner p tl m) : Cn l yX6_partner (ws_ yX6_partner cX6_partner 3 (some .int)) 8 0 0 [.ref (mx_ad X 40), .int p, .int what] (PicM X) (KM X) (mx_A X) m (fun rv_ w_ => rv_ = some (.int (-2)) ∧ w_ = (fX6_partner_no tl m)) := by
  refine cn_i (own := RX6) rfl (Nat.le_of_ble_eq_true rfl) rfl (fun g hgl hA F hret => ?_)
  refine Wd.eql (lv' := [(0, .ref (mx_ad X 40)), (1, .int p), (2, .int what)]) rfl ?_
  refine ro_aload_n F dX6_partner_0 0 rfl ?_
  refine ro_iload_n F dX6_partner_1 1 rfl ?_
  refine mo_cV (rest := []) F hA (metX6_isPartner (gx_l g) X m p tl htl ltl) cwX6_150 hdX6_isPartner rfl (Nat.le_of_ble_eq_true rfl) (Nat.le_of_ble_eq_true rfl) (Nat.le_refl _) (Nat.le_refl _) rfl (Nat.le_of_ble_eq_true rfl) dX6_partner_2 ?_
  refine ro_if_eqB (tgt := 39) F dX6_partner_5 (by decide) (fun c5 => ?_) (fun c5 => absurd c5 hb)
  refine ro_bipush (v := (-2)) F dX6_partner_39 (by decide) ?_
  exact hret _ _ _ _ _ _ (Nat.le_refl _) (Nat.le_refl _) dX6_partner_41 rfl ⟨rfl, rfl⟩
