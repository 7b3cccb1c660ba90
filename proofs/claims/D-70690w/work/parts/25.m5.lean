noncomputable def rX6_wipe (t : Nat) (tl : Nat → Nat) : Nat := (tl t)
noncomputable def fX6_wipe (t : Nat) (m : Mem) : Mem := (m2 m 0 t (nI 0))
theorem fr_fX6_wipe (t : Nat) (m : Mem) (f : Nat) (h0 : f ≠ 0) : fX6_wipe t m f = m f := (m2_ff _ _ h0).trans (rfl)
set_option maxHeartbeats 4000000 in
set_option maxRecDepth 100000 in
theorem metX6_wipe (l : Launch) (X : Mx) (m : Mem) (t : Nat) (tl : Nat → Nat) (htl : ∀ t, t < 2 → m 0 t = nI (tl t)) (ltl : ∀ t, tl t ≤ 31) (ht : t < 2) : Cn l yX6_wipe (ws_ yX6_wipe cX6_wipe 3 (some .int)) 3 0 0 [.ref (mx_ad X 40), .int (nI t)] (PicM X) (KM X) (mx_A X) m (fun rv_ w_ => rv_ = some (.int (nI (rX6_wipe t tl))) ∧ w_ = (fX6_wipe t m)) := by
  refine cn_i (own := RX6) rfl (Nat.le_of_ble_eq_true rfl) rfl (fun g hgl hA F hret => ?_)
  refine Wd.eql (lv' := [(0, .ref (mx_ad X 40)), (1, .int (nI t))]) rfl ?_
  refine ro_iload_n F dX6_wipe_0 1 rfl ?_
  refine mo_cS (rest := []) F hA (metX6_isText (gx_l g) X m (nI t) ) cwX6_108 hdX6_isText rfl (Nat.le_of_ble_eq_true rfl) (Nat.le_of_ble_eq_true rfl) (Nat.le_refl _) (Nat.le_refl _) rfl (Nat.le_of_ble_eq_true rfl) dX6_wipe_1 ?_
  refine ro_if_neB (tgt := 10) F dX6_wipe_4 (by decide) (fun c4 => ?_) (fun c4 => absurd (in_ok (by omega) (by omega) (by decide)) c4)
  refine ro_aload_n F dX6_wipe_10 0 rfl ?_
  refine mo_gr F 0 (Nat.le_of_ble_eq_true rfl) (by decide) lkX6_7 rfl dX6_wipe_11 ?_
  refine ro_iload_n F dX6_wipe_14 1 rfl ?_
  have hz := ltl t
  refine mo_ldN F 0 2 rfl (by decide) (by decide) rfl (by omega) dX6_wipe_15 (htl t (by omega)) ?_
  refine ro_istore_n (lv' := [(0, .ref (mx_ad X 40)), (1, .int (nI t)), (2, .int (nI (tl t)))]) F dX6_wipe_16 (Nat.le_of_ble_eq_true rfl) [1, 2, 0] rfl ?_
  refine ro_aload_n F dX6_wipe_17 0 rfl ?_
  refine mo_gr F 0 (Nat.le_of_ble_eq_true rfl) (by decide) lkX6_7 rfl dX6_wipe_18 ?_
  refine ro_iload_n F dX6_wipe_21 1 rfl ?_
  refine ro_iconst (v := (nI 0)) F dX6_wipe_22 (by decide) ?_
  refine mo_stN F hA 0 2 rfl (by decide) (by decide) rfl (by omega) dX6_wipe_23 ?_
  refine ro_iload_n F dX6_wipe_24 2 rfl ?_
  exact hret _ _ _ _ _ _ (Nat.le_refl _) (Nat.le_refl _) dX6_wipe_25 rfl ⟨congrArg (fun z => some (Value.int z)) (rfl), rfl⟩
set_option maxHeartbeats 4000000 in
set_option maxRecDepth 100000 in
theorem metX6_wipe_no (l : Launch) (X : Mx) (m : Mem) (text : Int32)  (hb : ¬ (¬ (text < nI 0) ∧ ¬ (nI 1 < text))) : Cn l yX6_wipe (ws_ yX6_wipe cX6_wipe 3 (some .int)) 3 0 0 [.ref (mx_ad X 40), .int text] (PicM X) (KM X) (mx_A X) m (fun rv_ w_ => rv_ = some (.int (-2)) ∧ w_ = m) := by
  refine cn_i (own := RX6) rfl (Nat.le_of_ble_eq_true rfl) rfl (fun g hgl hA F hret => ?_)
  refine Wd.eql (lv' := [(0, .ref (mx_ad X 40)), (1, .int text)]) rfl ?_
  refine ro_iload_n F dX6_wipe_0 1 rfl ?_
  refine mo_cS (rest := []) F hA (metX6_isText (gx_l g) X m text ) cwX6_108 hdX6_isText rfl (Nat.le_of_ble_eq_true rfl) (Nat.le_of_ble_eq_true rfl) (Nat.le_refl _) (Nat.le_refl _) rfl (Nat.le_of_ble_eq_true rfl) dX6_wipe_1 ?_
  refine ro_if_neB (tgt := 10) F dX6_wipe_4 (by decide) (fun c4 => absurd c4 hb) (fun c4 => ?_)
  refine ro_bipush (v := (-2)) F dX6_wipe_7 (by decide) ?_
  exact hret _ _ _ _ _ _ (Nat.le_refl _) (Nat.le_refl _) dX6_wipe_9 rfl ⟨rfl, rfl⟩
noncomputable def rX6_undo (t : Nat) (tl : Nat → Nat) : Int32 := (if (tl t) = 0 then (-3) else ((nI (tl t)) - (nI 1)))
noncomputable def fX6_undo (t : Nat) (tl : Nat → Nat) (m : Mem) : Mem := (if (tl t) = 0 then m else (m2 m 0 t ((nI (tl t)) - (nI 1))))
theorem fr_fX6_undo (t : Nat) (tl : Nat → Nat) (m : Mem) (f : Nat) (h0 : f ≠ 0) : fX6_undo t tl m f = m f := ite_fr (rfl) ((m2_ff _ _ h0).trans (rfl))
set_option maxHeartbeats 4000000 in
set_option maxRecDepth 100000 in
theorem metX6_undo (l : Launch) (X : Mx) (m : Mem) (t : Nat) (tl : Nat → Nat) (htl : ∀ t, t < 2 → m 0 t = nI (tl t)) (ltl : ∀ t, tl t ≤ 31) (ht : t < 2) : Cn l yX6_undo (ws_ yX6_undo cX6_undo 2 (some .int)) 3 0 0 [.ref (mx_ad X 40), .int (nI t)] (PicM X) (KM X) (mx_A X) m (fun rv_ w_ => rv_ = some (.int (rX6_undo t tl)) ∧ w_ = (fX6_undo t tl m)) := by
  refine cn_i (own := RX6) rfl (Nat.le_of_ble_eq_true rfl) rfl (fun g hgl hA F hret => ?_)
  refine Wd.eql (lv' := [(0, .ref (mx_ad X 40)), (1, .int (nI t))]) rfl ?_
  refine ro_iload_n F dX6_undo_0 1 rfl ?_
  refine mo_cS (rest := []) F hA (metX6_isText (gx_l g) X m (nI t) ) cwX6_108 hdX6_isText rfl (Nat.le_of_ble_eq_true rfl) (Nat.le_of_ble_eq_true rfl) (Nat.le_refl _) (Nat.le_refl _) rfl (Nat.le_of_ble_eq_true rfl) dX6_undo_1 ?_
  refine ro_if_neB (tgt := 10) F dX6_undo_4 (by decide) (fun c4 => ?_) (fun c4 => absurd (in_ok (by omega) (by omega) (by decide)) c4)
  refine ro_aload_n F dX6_undo_10 0 rfl ?_
  refine mo_gr F 0 (Nat.le_of_ble_eq_true rfl) (by decide) lkX6_7 rfl dX6_undo_11 ?_
  refine ro_iload_n F dX6_undo_14 1 rfl ?_
  have hz := ltl t
  refine mo_ldN F 0 2 rfl (by decide) (by decide) rfl (by omega) dX6_undo_15 (htl t (by omega)) ?_
  refine ro_if_neN (tgt := 22) F dX6_undo_16 (by decide) (by omega) (fun c16 => ?_) (fun c16 => ?_)
  · refine ro_aload_n F dX6_undo_22 0 rfl ?_
    refine mo_gr F 0 (Nat.le_of_ble_eq_true rfl) (by decide) lkX6_7 rfl dX6_undo_23 ?_
    refine ro_iload_n F dX6_undo_26 1 rfl ?_
    refine ro_dup2 F dX6_undo_27 rfl rfl ?_
    have hz := ltl t
    refine mo_ldN F 0 2 rfl (by decide) (by decide) rfl (by omega) dX6_undo_28 (htl t (by omega)) ?_
    refine ro_iconst (v := (nI 1)) F dX6_undo_29 (by decide) ?_
    refine ro_isub F dX6_undo_30 ?_
    refine mo_stN F hA 0 2 rfl (by decide) (by decide) rfl (by omega) dX6_undo_31 ?_
    refine ro_aload_n F dX6_undo_32 0 rfl ?_
    refine mo_gr F 0 (Nat.le_of_ble_eq_true rfl) (by decide) lkX6_7 rfl dX6_undo_33 ?_
    refine ro_iload_n F dX6_undo_36 1 rfl ?_
    refine mo_ldN F 0 2 rfl (by decide) (by decide) rfl (by omega) dX6_undo_37 (m2_self _ _ _ _) ?_
    exact hret _ _ _ _ _ _ (Nat.le_refl _) (Nat.le_refl _) dX6_undo_38 rfl ⟨congrArg (fun z => some (Value.int z)) (by simp only [rX6_undo, if_pos c4, if_neg c16]), (by simp only [fX6_undo, if_pos c4, if_neg c16])⟩
  · refine ro_bipush (v := (-3)) F dX6_undo_19 (by decide) ?_
    exact hret _ _ _ _ _ _ (Nat.le_refl _) (Nat.le_refl _) dX6_undo_21 rfl ⟨congrArg (fun z => some (Value.int z)) (by simp only [rX6_undo, if_pos c4, if_pos c16]), (by simp only [fX6_undo, if_pos c4, if_pos c16])⟩
set_option maxHeartbeats 4000000 in
set_option maxRecDepth 100000 in
theorem metX6_undo_no (l : Launch) (X : Mx) (m : Mem) (text : Int32)  (hb : ¬ (¬ (text < nI 0) ∧ ¬ (nI 1 < text))) : Cn l yX6_undo (ws_ yX6_undo cX6_undo 2 (some .int)) 3 0 0 [.ref (mx_ad X 40), .int text] (PicM X) (KM X) (mx_A X) m (fun rv_ w_ => rv_ = some (.int (-2)) ∧ w_ = m) := by
  refine cn_i (own := RX6) rfl (Nat.le_of_ble_eq_true rfl) rfl (fun g hgl hA F hret => ?_)
  refine Wd.eql (lv' := [(0, .ref (mx_ad X 40)), (1, .int text)]) rfl ?_
  refine ro_iload_n F dX6_undo_0 1 rfl ?_
  refine mo_cS (rest := []) F hA (metX6_isText (gx_l g) X m text ) cwX6_108 hdX6_isText rfl (Nat.le_of_ble_eq_true rfl) (Nat.le_of_ble_eq_true rfl) (Nat.le_refl _) (Nat.le_refl _) rfl (Nat.le_of_ble_eq_true rfl) dX6_undo_1 ?_
  refine ro_if_neB (tgt := 10) F dX6_undo_4 (by decide) (fun c4 => absurd c4 hb) (fun c4 => ?_)
  refine ro_bipush (v := (-2)) F dX6_undo_7 (by decide) ?_
  exact hret _ _ _ _ _ _ (Nat.le_refl _) (Nat.le_refl _) dX6_undo_9 rfl ⟨rfl, rfl⟩
noncomputable def rX6_type (t : Nat) (b : Int32) (tl : Nat → Nat) : Int32 := (if ¬ (b < (nI 0)) ∧ (¬ ((nI 255) < b)) then (if (tl t) = (if t = 0 then 31 else 23) then (-4) else (nI ((tl t) + 1))) else (-2))
noncomputable def fX6_type (t : Nat) (b : Int32) (tl : Nat → Nat) (m : Mem) : Mem := (if ¬ (b < (nI 0)) ∧ (¬ ((nI 255) < b)) then (if (tl t) = (if t = 0 then 31 else 23) then m else (m2 (m2 m 1 ((31 * t) + (tl t)) b) 0 t (nI ((tl t) + 1)))) else m)
theorem fr_fX6_type (t : Nat) (b : Int32) (tl : Nat → Nat) (m : Mem) (f : Nat) (h0 : f ≠ 0) (h1 : f ≠ 1) : fX6_type t b tl m f = m f := ite_fr (ite_fr (rfl) ((m2_ff _ _ h0).trans ((m2_ff _ _ h1).trans (rfl)))) (rfl)
set_option maxHeartbeats 4000000 in
set_option maxRecDepth 100000 in
theorem metX6_type (l : Launch) (X : Mx) (m : Mem) (t : Nat) (b : Int32) (tl : Nat → Nat) (htl : ∀ t, t < 2 → m 0 t = nI (tl t)) (ltl : ∀ t, tl t ≤ 31) (ht : t < 2) (lty : ∀ t, t < 2 → tl t ≤ (if t = 0 then 31 else 23)) : Cn l yX6_type (ws_ yX6_type cX6_type 3 (some .int)) 3 0 0 [.ref (mx_ad X 40), .int (nI t), .int b] (PicM X) (KM X) (mx_A X) m (fun rv_ w_ => rv_ = some (.int (rX6_type t b tl)) ∧ w_ = (fX6_type t b tl m)) := by
  refine cn_i (own := RX6) rfl (Nat.le_of_ble_eq_true rfl) rfl (fun g hgl hA F hret => ?_)
  refine Wd.eql (lv' := [(0, .ref (mx_ad X 40)), (1, .int (nI t)), (2, .int b)]) rfl ?_
  have hlt := lty t ht
  have h23 : (if t = 0 then 31 else 23) ≤ 31 := le_ite (by decide) (by decide)
  refine ro_iload_n F dX6_type_0 1 rfl ?_
  refine mo_cS (rest := []) F hA (metX6_isText (gx_l g) X m (nI t) ) cwX6_108 hdX6_isText rfl (Nat.le_of_ble_eq_true rfl) (Nat.le_of_ble_eq_true rfl) (Nat.le_refl _) (Nat.le_refl _) rfl (Nat.le_of_ble_eq_true rfl) dX6_type_1 ?_
  refine ro_if_eqB (tgt := 18) F dX6_type_4 (by decide) (fun c4 => absurd (in_ok (by omega) (by omega) (by decide)) c4) (fun c4 => ?_)
  refine ro_iload_n F dX6_type_7 2 rfl ?_
  refine ro_iconst (v := (nI 0)) F dX6_type_8 (by decide) ?_
  refine ro_sipush (v := (nI 255)) F dX6_type_9 (by decide) ?_
  refine mo_cS (rest := []) F hA (metX6_in (gx_l g) X m b (nI 0) (nI 255) ) cwX6_104 hdX6_in rfl (Nat.le_of_ble_eq_true rfl) (Nat.le_of_ble_eq_true rfl) (Nat.le_refl _) (Nat.le_refl _) rfl (Nat.le_of_ble_eq_true rfl) dX6_type_12 ?_
  refine ro_if_neB (tgt := 21) F dX6_type_15 (by decide) (fun c15 => ?_) (fun c15 => ?_)
  · refine ro_aload_n F dX6_type_21 0 rfl ?_
    refine mo_gr F 0 (Nat.le_of_ble_eq_true rfl) (by decide) lkX6_7 rfl dX6_type_22 ?_
    refine ro_iload_n F dX6_type_25 1 rfl ?_
    have hz := ltl t
    refine mo_ldN F 0 2 rfl (by decide) (by decide) rfl (by omega) dX6_type_26 (htl t (by omega)) ?_
    refine ro_iload_n F dX6_type_27 1 rfl ?_
    have J38_28 : Wd (PicM X) g 3 m 0 0 38 [(0, .ref (mx_ad X 40)), (1, .int (nI t)), (2, .int b)] [.int (nI (if t = 0 then 31 else 23)), .int (nI (tl t))] := by
      refine ro_icmp_neN (tgt := 44) F dX6_type_38 (by decide) (by omega) (by omega) (fun c38 => ?_) (fun c38 => ?_)
      · refine ro_aload_n F dX6_type_44 0 rfl ?_
        refine mo_gr F 1 (Nat.le_of_ble_eq_true rfl) (by decide) lkX6_13 rfl dX6_type_45 ?_
        refine ro_bipush (v := (nI 31)) F dX6_type_48 (by decide) ?_
        refine ro_iload_n F dX6_type_50 1 rfl ?_
        refine ro_imulN F dX6_type_51 ?_
        refine ro_aload_n F dX6_type_52 0 rfl ?_
        refine mo_gr F 0 (Nat.le_of_ble_eq_true rfl) (by decide) lkX6_7 rfl dX6_type_53 ?_
        refine ro_iload_n F dX6_type_56 1 rfl ?_
        have hz := ltl t
        refine mo_ldN F 0 2 rfl (by decide) (by decide) rfl (by omega) dX6_type_57 (htl t (by omega)) ?_
        refine ro_iaddN F dX6_type_58 ?_
        refine ro_iload_n F dX6_type_59 2 rfl ?_
        refine mo_stN F hA 1 62 rfl (by decide) (by decide) rfl (by omega) dX6_type_60 ?_
        refine ro_aload_n F dX6_type_61 0 rfl ?_
        refine mo_gr F 0 (Nat.le_of_ble_eq_true rfl) (by decide) lkX6_7 rfl dX6_type_62 ?_
        refine ro_iload_n F dX6_type_65 1 rfl ?_
        refine ro_dup2 F dX6_type_66 rfl rfl ?_
        have hz := ltl t
        refine mo_ldN F 0 2 rfl (by decide) (by decide) rfl (by omega) dX6_type_67 ((m2_f _ _ (by decide)).trans (htl t (by omega))) ?_
        refine ro_iconst (v := (nI 1)) F dX6_type_68 (by decide) ?_
        refine ro_iaddN F dX6_type_69 ?_
        refine mo_stN F hA 0 2 rfl (by decide) (by decide) rfl (by omega) dX6_type_70 ?_
        refine ro_aload_n F dX6_type_71 0 rfl ?_
        refine mo_gr F 0 (Nat.le_of_ble_eq_true rfl) (by decide) lkX6_7 rfl dX6_type_72 ?_
        refine ro_iload_n F dX6_type_75 1 rfl ?_
        refine mo_ldN F 0 2 rfl (by decide) (by decide) rfl (by omega) dX6_type_76 (m2_self _ _ _ _) ?_
        exact hret _ _ _ _ _ _ (Nat.le_refl _) (Nat.le_refl _) dX6_type_77 rfl ⟨congrArg (fun z => some (Value.int z)) (by simp only [rX6_type, if_pos c4, if_pos c15, if_neg c38]), (by simp only [fX6_type, if_pos c4, if_pos c15, if_neg c38])⟩
      · refine ro_bipush (v := (-4)) F dX6_type_41 (by decide) ?_
        exact hret _ _ _ _ _ _ (Nat.le_refl _) (Nat.le_refl _) dX6_type_43 rfl ⟨congrArg (fun z => some (Value.int z)) (by simp only [rX6_type, if_pos c4, if_pos c15, if_pos c38]), (by simp only [fX6_type, if_pos c4, if_pos c15, if_pos c38])⟩
    refine ro_if_neN (tgt := 36) F dX6_type_28 (by decide) (by omega) (fun c28 => ?_) (fun c28 => ?_)
    · refine ro_bipush (v := (nI 23)) F dX6_type_36 (by decide) ?_
      exact Wd.to J38_28 rfl rfl (congrArg (fun z => ([Value.int z, .int (nI (tl t))] : List Value)) (congrArg nI (by simp only [if_neg c28])))
    · refine ro_bipush (v := (nI 31)) F dX6_type_31 (by decide) ?_
      refine ro_goto (tgt := 38) F dX6_type_33 (by decide) ?_
      exact Wd.to J38_28 rfl rfl (congrArg (fun z => ([Value.int z, .int (nI (tl t))] : List Value)) (congrArg nI (by simp only [if_pos c28])))
  · refine ro_bipush (v := (-2)) F dX6_type_18 (by decide) ?_
    exact hret _ _ _ _ _ _ (Nat.le_refl _) (Nat.le_refl _) dX6_type_20 rfl ⟨congrArg (fun z => some (Value.int z)) (by simp only [rX6_type, if_pos c4, if_neg c15]), (by simp only [fX6_type, if_pos c4, if_neg c15])⟩
set_option maxHeartbeats 4000000 in
set_option maxRecDepth 100000 in
theorem metX6_type_no (l : Launch) (X : Mx) (m : Mem) (text : Int32) (b : Int32)  (hb : ¬ (¬ (text < nI 0) ∧ ¬ (nI 1 < text))) : Cn l yX6_type (ws_ yX6_type cX6_type 3 (some .int)) 3 0 0 [.ref (mx_ad X 40), .int text, .int b] (PicM X) (KM X) (mx_A X) m (fun rv_ w_ => rv_ = some (.int (-2)) ∧ w_ = m) := by
  refine cn_i (own := RX6) rfl (Nat.le_of_ble_eq_true rfl) rfl (fun g hgl hA F hret => ?_)
  refine Wd.eql (lv' := [(0, .ref (mx_ad X 40)), (1, .int text), (2, .int b)]) rfl ?_
  refine ro_iload_n F dX6_type_0 1 rfl ?_
  refine mo_cS (rest := []) F hA (metX6_isText (gx_l g) X m text ) cwX6_108 hdX6_isText rfl (Nat.le_of_ble_eq_true rfl) (Nat.le_of_ble_eq_true rfl) (Nat.le_refl _) (Nat.le_refl _) rfl (Nat.le_of_ble_eq_true rfl) dX6_type_1 ?_
  refine ro_if_eqB (tgt := 18) F dX6_type_4 (by decide) (fun c4 => ?_) (fun c4 => absurd c4 hb)
  refine ro_bipush (v := (-2)) F dX6_type_18 (by decide) ?_
  exact hret _ _ _ _ _ _ (Nat.le_refl _) (Nat.le_refl _) dX6_type_20 rfl ⟨rfl, rfl⟩
noncomputable def rX6_call (day : Int32) (saver : Int32) (nc : Nat) : Int32 := (if ¬ (day < (nI 0)) ∧ (¬ ((nI 19) < day)) then (if ¬ (saver < (nI 0)) ∧ (¬ ((nI 7) < saver)) then (if nc = 8 then (-4) else (nI (nc + 1))) else (-2)) else (-2))
noncomputable def fX6_call (day : Int32) (saver : Int32) (nc : Nat) (m : Mem) : Mem := (if ¬ (day < (nI 0)) ∧ (¬ ((nI 19) < day)) then (if ¬ (saver < (nI 0)) ∧ (¬ ((nI 7) < saver)) then (if nc = 8 then m else (m2 (m2 (m2 m 12 nc day) 13 nc saver) 11 0 (nI (nc + 1)))) else m) else m)
theorem fr_fX6_call (day : Int32) (saver : Int32) (nc : Nat) (m : Mem) (f : Nat) (h11 : f ≠ 11) (h12 : f ≠ 12) (h13 : f ≠ 13) : fX6_call day saver nc m f = m f := ite_fr (ite_fr (ite_fr (rfl) ((m2_ff _ _ h11).trans ((m2_ff _ _ h13).trans ((m2_ff _ _ h12).trans (rfl))))) (rfl)) (rfl)
theorem gv_X6_call_11 (m : Mem) (day : Int32) (saver : Int32) (nc : Nat) (hnc : m 11 0 = nI nc) (lnc : nc ≤ 8) : fX6_call day saver nc m 11 0 = (nI (if ¬ (day < (nI 0)) ∧ (¬ ((nI 19) < day)) then (if ¬ (saver < (nI 0)) ∧ (¬ ((nI 7) < saver)) then (if nc = 8 then nc else nc + 1) else nc) else nc)) := show (if ¬ (day < (nI 0)) ∧ (¬ ((nI 19) < day)) then (if ¬ (saver < (nI 0)) ∧ (¬ ((nI 7) < saver)) then (if nc = 8 then m else (m2 (m2 (m2 m 12 nc day) 13 nc saver) 11 0 (nI (nc + 1)))) else m) else m) 11 0 = _ from ite_rdN (ite_rdN (ite_rdN hnc (m2_self _ _ _ _)) hnc) hnc
set_option maxHeartbeats 4000000 in
set_option maxRecDepth 100000 in
theorem metX6_call (l : Launch) (X : Mx) (m : Mem) (day : Int32) (saver : Int32) (nc : Nat) (hnc : m 11 0 = nI nc) (lnc : nc ≤ 8) : Cn l yX6_call (ws_ yX6_call cX6_call 3 (some .int)) 3 0 0 [.ref (mx_ad X 40), .int day, .int saver] (PicM X) (KM X) (mx_A X) m (fun rv_ w_ => rv_ = some (.int (rX6_call day saver nc)) ∧ w_ = (fX6_call day saver nc m)) := by
  refine cn_i (own := RX6) rfl (Nat.le_of_ble_eq_true rfl) rfl (fun g hgl hA F hret => ?_)
  refine Wd.eql (lv' := [(0, .ref (mx_ad X 40)), (1, .int day), (2, .int saver)]) rfl ?_
  refine ro_iload_n F dX6_call_0 1 rfl ?_
  refine mo_cS (rest := []) F hA (metX6_isDay (gx_l g) X m day ) cwX6_153 hdX6_isDay rfl (Nat.le_of_ble_eq_true rfl) (Nat.le_of_ble_eq_true rfl) (Nat.le_refl _) (Nat.le_refl _) rfl (Nat.le_of_ble_eq_true rfl) dX6_call_1 ?_
  refine ro_if_eqB (tgt := 17) F dX6_call_4 (by decide) (fun c4 => ?_) (fun c4 => ?_)
  · refine ro_bipush (v := (-2)) F dX6_call_17 (by decide) ?_
    exact hret _ _ _ _ _ _ (Nat.le_refl _) (Nat.le_refl _) dX6_call_19 rfl ⟨congrArg (fun z => some (Value.int z)) (by simp only [rX6_call, if_neg c4]), (by simp only [fX6_call, if_neg c4])⟩
  · refine ro_iload_n F dX6_call_7 2 rfl ?_
    refine ro_iconst (v := (nI 0)) F dX6_call_8 (by decide) ?_
    refine ro_bipush (v := (nI 7)) F dX6_call_9 (by decide) ?_
    refine mo_cS (rest := []) F hA (metX6_in (gx_l g) X m saver (nI 0) (nI 7) ) cwX6_104 hdX6_in rfl (Nat.le_of_ble_eq_true rfl) (Nat.le_of_ble_eq_true rfl) (Nat.le_refl _) (Nat.le_refl _) rfl (Nat.le_of_ble_eq_true rfl) dX6_call_11 ?_
    refine ro_if_neB (tgt := 20) F dX6_call_14 (by decide) (fun c14 => ?_) (fun c14 => ?_)
    · refine ro_aload_n F dX6_call_20 0 rfl ?_
      refine mo_gi F 11 (Nat.le_of_ble_eq_true rfl) rfl lkX6_156 rfl dX6_call_21 hnc ?_
      refine ro_bipush (v := (nI 8)) F dX6_call_24 (by decide) ?_
      refine ro_icmp_neN (tgt := 32) F dX6_call_26 (by decide) (by omega) (by omega) (fun c26 => ?_) (fun c26 => ?_)
      · refine ro_aload_n F dX6_call_32 0 rfl ?_
        refine mo_gr F 12 (Nat.le_of_ble_eq_true rfl) (by decide) lkX6_31 rfl dX6_call_33 ?_
        refine ro_aload_n F dX6_call_36 0 rfl ?_
        refine mo_gi F 11 (Nat.le_of_ble_eq_true rfl) rfl lkX6_156 rfl dX6_call_37 hnc ?_
        refine ro_iload_n F dX6_call_40 1 rfl ?_
        refine mo_stN F hA 12 8 rfl (by decide) (by decide) rfl (by omega) dX6_call_41 ?_
        refine ro_aload_n F dX6_call_42 0 rfl ?_
        refine mo_gr F 13 (Nat.le_of_ble_eq_true rfl) (by decide) lkX6_34 rfl dX6_call_43 ?_
        refine ro_aload_n F dX6_call_46 0 rfl ?_
        refine mo_gi F 11 (Nat.le_of_ble_eq_true rfl) rfl lkX6_156 rfl dX6_call_47 ((m2_f _ _ (by decide)).trans (hnc)) ?_
        refine ro_iload_n F dX6_call_50 2 rfl ?_
        refine mo_stN F hA 13 8 rfl (by decide) (by decide) rfl (by omega) dX6_call_51 ?_
        refine ro_aload_n F dX6_call_52 0 rfl ?_
        refine ro_dup F dX6_call_53 rfl ?_
        refine mo_gi F 11 (Nat.le_of_ble_eq_true rfl) rfl lkX6_156 rfl dX6_call_54 ((m2_f _ _ (by decide)).trans ((m2_f _ _ (by decide)).trans (hnc))) ?_
        refine ro_iconst (v := (nI 1)) F dX6_call_57 (by decide) ?_
        refine ro_iaddN F dX6_call_58 ?_
        refine mo_put F hA 11 (Nat.le_of_ble_eq_true rfl) rfl rfl rfl lkX6_156 rfl dX6_call_59 ?_
        refine ro_aload_n F dX6_call_62 0 rfl ?_
        refine mo_gi F 11 (Nat.le_of_ble_eq_true rfl) rfl lkX6_156 rfl dX6_call_63 (m2_self _ _ _ _) ?_
        exact hret _ _ _ _ _ _ (Nat.le_refl _) (Nat.le_refl _) dX6_call_66 rfl ⟨congrArg (fun z => some (Value.int z)) (by simp only [rX6_call, if_pos c4, if_pos c14, if_neg c26]), (by simp only [fX6_call, if_pos c4, if_pos c14, if_neg c26])⟩
      · refine ro_bipush (v := (-4)) F dX6_call_29 (by decide) ?_
        exact hret _ _ _ _ _ _ (Nat.le_refl _) (Nat.le_refl _) dX6_call_31 rfl ⟨congrArg (fun z => some (Value.int z)) (by simp only [rX6_call, if_pos c4, if_pos c14, if_pos c26]), (by simp only [fX6_call, if_pos c4, if_pos c14, if_pos c26])⟩
    · refine ro_bipush (v := (-2)) F dX6_call_17 (by decide) ?_
      exact hret _ _ _ _ _ _ (Nat.le_refl _) (Nat.le_refl _) dX6_call_19 rfl ⟨congrArg (fun z => some (Value.int z)) (by simp only [rX6_call, if_pos c4, if_neg c14]), (by simp only [fX6_call, if_pos c4, if_neg c14])⟩
noncomputable def rX6_war (day : Int32) (nw : Nat) : Int32 := (if ¬ (day < (nI 0)) ∧ (¬ ((nI 19) < day)) then (if nw = 6 then (-4) else (nI (nw + 1))) else (-2))
noncomputable def fX6_war (day : Int32) (nw : Nat) (m : Mem) : Mem := (if ¬ (day < (nI 0)) ∧ (¬ ((nI 19) < day)) then (if nw = 6 then m else (m2 (m2 m 15 nw day) 14 0 (nI (nw + 1)))) else m)
theorem fr_fX6_war (day : Int32) (nw : Nat) (m : Mem) (f : Nat) (h14 : f ≠ 14) (h15 : f ≠ 15) : fX6_war day nw m f = m f := ite_fr (ite_fr (rfl) ((m2_ff _ _ h14).trans ((m2_ff _ _ h15).trans (rfl)))) (rfl)
set_option maxHeartbeats 4000000 in
set_option maxRecDepth 100000 in
theorem metX6_war (l : Launch) (X : Mx) (m : Mem) (day : Int32) (nw : Nat) (hnw : m 14 0 = nI nw) (lnw : nw ≤ 6) : Cn l yX6_war (ws_ yX6_war cX6_war 2 (some .int)) 3 0 0 [.ref (mx_ad X 40), .int day] (PicM X) (KM X) (mx_A X) m (fun rv_ w_ => rv_ = some (.int (rX6_war day nw)) ∧ w_ = (fX6_war day nw m)) := by
  refine cn_i (own := RX6) rfl (Nat.le_of_ble_eq_true rfl) rfl (fun g hgl hA F hret => ?_)
  refine Wd.eql (lv' := [(0, .ref (mx_ad X 40)), (1, .int day)]) rfl ?_
  refine ro_iload_n F dX6_war_0 1 rfl ?_
  refine mo_cS (rest := []) F hA (metX6_isDay (gx_l g) X m day ) cwX6_153 hdX6_isDay rfl (Nat.le_of_ble_eq_true rfl) (Nat.le_of_ble_eq_true rfl) (Nat.le_refl _) (Nat.le_refl _) rfl (Nat.le_of_ble_eq_true rfl) dX6_war_1 ?_
  refine ro_if_neB (tgt := 10) F dX6_war_4 (by decide) (fun c4 => ?_) (fun c4 => ?_)
  · refine ro_aload_n F dX6_war_10 0 rfl ?_
    refine mo_gi F 14 (Nat.le_of_ble_eq_true rfl) rfl lkX6_159 rfl dX6_war_11 hnw ?_
    refine ro_bipush (v := (nI 6)) F dX6_war_14 (by decide) ?_
    refine ro_icmp_neN (tgt := 22) F dX6_war_16 (by decide) (by omega) (by omega) (fun c16 => ?_) (fun c16 => ?_)
    · refine ro_aload_n F dX6_war_22 0 rfl ?_
      refine mo_gr F 15 (Nat.le_of_ble_eq_true rfl) (by decide) lkX6_37 rfl dX6_war_23 ?_
      refine ro_aload_n F dX6_war_26 0 rfl ?_
      refine mo_gi F 14 (Nat.le_of_ble_eq_true rfl) rfl lkX6_159 rfl dX6_war_27 hnw ?_
      refine ro_iload_n F dX6_war_30 1 rfl ?_
      refine mo_stN F hA 15 6 rfl (by decide) (by decide) rfl (by omega) dX6_war_31 ?_
      refine ro_aload_n F dX6_war_32 0 rfl ?_
      refine ro_dup F dX6_war_33 rfl ?_
      refine mo_gi F 14 (Nat.le_of_ble_eq_true rfl) rfl lkX6_159 rfl dX6_war_34 ((m2_f _ _ (by decide)).trans (hnw)) ?_
      refine ro_iconst (v := (nI 1)) F dX6_war_37 (by decide) ?_
      refine ro_iaddN F dX6_war_38 ?_
      refine mo_put F hA 14 (Nat.le_of_ble_eq_true rfl) rfl rfl rfl lkX6_159 rfl dX6_war_39 ?_
      refine ro_aload_n F dX6_war_42 0 rfl ?_
      refine mo_gi F 14 (Nat.le_of_ble_eq_true rfl) rfl lkX6_159 rfl dX6_war_43 (m2_self _ _ _ _) ?_
      exact hret _ _ _ _ _ _ (Nat.le_refl _) (Nat.le_refl _) dX6_war_46 rfl ⟨congrArg (fun z => some (Value.int z)) (by simp only [rX6_war, if_pos c4, if_neg c16]), (by simp only [fX6_war, if_pos c4, if_neg c16])⟩
    · refine ro_bipush (v := (-4)) F dX6_war_19 (by decide) ?_
      exact hret _ _ _ _ _ _ (Nat.le_refl _) (Nat.le_refl _) dX6_war_21 rfl ⟨congrArg (fun z => some (Value.int z)) (by simp only [rX6_war, if_pos c4, if_pos c16]), (by simp only [fX6_war, if_pos c4, if_pos c16])⟩
  · refine ro_bipush (v := (-2)) F dX6_war_7 (by decide) ?_
    exact hret _ _ _ _ _ _ (Nat.le_refl _) (Nat.le_refl _) dX6_war_9 rfl ⟨congrArg (fun z => some (Value.int z)) (by simp only [rX6_war, if_neg c4]), (by simp only [fX6_war, if_neg c4])⟩
noncomputable def rX6_back (what : Int32) (nc : Nat) (nw : Nat) : Int32 := (if ¬ (what < (nI 0)) ∧ (¬ ((nI 1) < what)) then (if (if what = 0 then nc else nw) = 0 then (-3) else ((nI (if what = 0 then nc else nw)) - (nI 1))) else (-2))
noncomputable def fX6_back (what : Int32) (nc : Nat) (nw : Nat) (m : Mem) : Mem := (if ¬ (what < (nI 0)) ∧ (¬ ((nI 1) < what)) then (if (if what = 0 then nc else nw) = 0 then m else (m2 (m2 m 11 0 ((nI nc) - (b2 (what = 0)))) 14 0 ((nI nw) - (b2 (what = (nI 1)))))) else m)
theorem fr_fX6_back (what : Int32) (nc : Nat) (nw : Nat) (m : Mem) (f : Nat) (h11 : f ≠ 11) (h14 : f ≠ 14) : fX6_back what nc nw m f = m f := ite_fr (ite_fr (rfl) ((m2_ff _ _ h14).trans ((m2_ff _ _ h11).trans (rfl)))) (rfl)
set_option maxHeartbeats 4000000 in
set_option maxRecDepth 100000 in
theorem metX6_back (l : Launch) (X : Mx) (m : Mem) (what : Int32) (nc : Nat) (nw : Nat) (hnc : m 11 0 = nI nc) (lnc : nc ≤ 8) (hnw : m 14 0 = nI nw) (lnw : nw ≤ 6) : Cn l yX6_back (ws_ yX6_back cX6_back 3 (some .int)) 2 0 0 [.ref (mx_ad X 40), .int what] (PicM X) (KM X) (mx_A X) m (fun rv_ w_ => rv_ = some (.int (rX6_back what nc nw)) ∧ w_ = (fX6_back what nc nw m)) := by
  refine cn_i (own := RX6) rfl (Nat.le_of_ble_eq_true rfl) rfl (fun g hgl hA F hret => ?_)
  refine Wd.eql (lv' := [(0, .ref (mx_ad X 40)), (1, .int what)]) rfl ?_
  have hbk : (if what = 0 then nc else nw) ≤ 8 := le_ite (by omega) (by omega)
  refine ro_iload_n F dX6_back_0 1 rfl ?_
  refine ro_iconst (v := (nI 0)) F dX6_back_1 (by decide) ?_
  refine ro_iconst (v := (nI 1)) F dX6_back_2 (by decide) ?_
  refine mo_cS (rest := []) F hA (metX6_in (gx_l g) X m what (nI 0) (nI 1) ) cwX6_104 hdX6_in rfl (Nat.le_of_ble_eq_true rfl) (Nat.le_of_ble_eq_true rfl) (Nat.le_refl _) (Nat.le_refl _) rfl (Nat.le_of_ble_eq_true rfl) dX6_back_3 ?_
  refine ro_if_neB (tgt := 12) F dX6_back_6 (by decide) (fun c6 => ?_) (fun c6 => ?_)
  · refine ro_iload_n F dX6_back_12 1 rfl ?_
    have J27_13 : Wd (PicM X) g 3 m 0 0 27 [(0, .ref (mx_ad X 40)), (1, .int what)] [.int (nI (if what = 0 then nc else nw))] := by
      refine ro_istore_n (lv' := [(0, .ref (mx_ad X 40)), (1, .int what), (2, .int (nI (if what = 0 then nc else nw)))]) F dX6_back_27 (Nat.le_of_ble_eq_true rfl) [1, 2, 0] rfl ?_
      refine ro_iload_n F dX6_back_28 2 rfl ?_
      refine ro_if_neN (tgt := 35) F dX6_back_29 (by decide) (by omega) (fun c29 => ?_) (fun c29 => ?_)
      · refine ro_aload_n F dX6_back_35 0 rfl ?_
        refine ro_dup F dX6_back_36 rfl ?_
        refine mo_gi F 11 (Nat.le_of_ble_eq_true rfl) rfl lkX6_156 rfl dX6_back_37 hnc ?_
        refine ro_iload_n F dX6_back_40 1 rfl ?_
        have J49_41 : Wd (PicM X) g 3 m 0 0 49 [(0, .ref (mx_ad X 40)), (1, .int what), (2, .int (nI (if what = 0 then nc else nw)))] [.int (b2 (what = 0)), .int (nI nc), .ref (mx_ad X 40)] := by
          refine ro_isub F dX6_back_49 ?_
          refine mo_put F hA 11 (Nat.le_of_ble_eq_true rfl) rfl rfl rfl lkX6_156 rfl dX6_back_50 ?_
          refine ro_aload_n F dX6_back_53 0 rfl ?_
          refine ro_dup F dX6_back_54 rfl ?_
          refine mo_gi F 14 (Nat.le_of_ble_eq_true rfl) rfl lkX6_159 rfl dX6_back_55 ((m2_f _ _ (by decide)).trans (hnw)) ?_
          refine ro_iload_n F dX6_back_58 1 rfl ?_
          refine ro_iconst (v := (nI 1)) F dX6_back_59 (by decide) ?_
          have J68_60 : Wd (PicM X) g 3 (m2 m 11 0 ((nI nc) - (b2 (what = 0)))) 0 0 68 [(2, .int (nI (if what = 0 then nc else nw)))] [.int (b2 (what = (nI 1))), .int (nI nw), .ref (mx_ad X 40)] := by
            refine ro_isub F dX6_back_68 ?_
            refine mo_put F hA 14 (Nat.le_of_ble_eq_true rfl) rfl rfl rfl lkX6_159 rfl dX6_back_69 ?_
            refine ro_iload_n F dX6_back_72 0 rfl ?_
            refine ro_iconst (v := (nI 1)) F dX6_back_73 (by decide) ?_
            refine ro_isub F dX6_back_74 ?_
            exact hret _ _ _ _ _ _ (Nat.le_refl _) (Nat.le_refl _) dX6_back_75 rfl ⟨congrArg (fun z => some (Value.int z)) (by simp only [rX6_back, if_pos c6, if_neg c29]), (by simp only [fX6_back, if_pos c6, if_neg c29])⟩
          refine ro_icmp_ne (tgt := 67) F dX6_back_60 (by decide) (fun c60 => ?_) (fun c60 => ?_)
          · refine ro_iconst (v := (nI 0)) F dX6_back_67 (by decide) ?_
            exact Wd.sub (lv' := [(2, .int (nI (if what = 0 then nc else nw)))]) [2] rfl <| Wd.to J68_60 rfl rfl (congrArg (fun z => ([Value.int z, .int (nI nw), .ref (mx_ad X 40)] : List Value)) ((b2_f (by simp [c60])).symm))
          · refine ro_iconst (v := (nI 1)) F dX6_back_63 (by decide) ?_
            refine ro_goto (tgt := 68) F dX6_back_64 (by decide) ?_
            exact Wd.sub (lv' := [(2, .int (nI (if what = 0 then nc else nw)))]) [2] rfl <| Wd.to J68_60 rfl rfl (congrArg (fun z => ([Value.int z, .int (nI nw), .ref (mx_ad X 40)] : List Value)) ((b2_t (by simp [c60])).symm))
        refine ro_if_ne (tgt := 48) F dX6_back_41 (by decide) (fun c41 => ?_) (fun c41 => ?_)
        · refine ro_iconst (v := (nI 0)) F dX6_back_48 (by decide) ?_
          exact Wd.to J49_41 rfl rfl (congrArg (fun z => ([Value.int z, .int (nI nc), .ref (mx_ad X 40)] : List Value)) ((b2_f (by simp [c41])).symm))
        · refine ro_iconst (v := (nI 1)) F dX6_back_44 (by decide) ?_
          refine ro_goto (tgt := 49) F dX6_back_45 (by decide) ?_
          exact Wd.to J49_41 rfl rfl (congrArg (fun z => ([Value.int z, .int (nI nc), .ref (mx_ad X 40)] : List Value)) ((b2_t (by simp [c41])).symm))
      · refine ro_bipush (v := (-3)) F dX6_back_32 (by decide) ?_
        exact hret _ _ _ _ _ _ (Nat.le_refl _) (Nat.le_refl _) dX6_back_34 rfl ⟨congrArg (fun z => some (Value.int z)) (by simp only [rX6_back, if_pos c6, if_pos c29]), (by simp only [fX6_back, if_pos c6, if_pos c29])⟩
    refine ro_if_ne (tgt := 23) F dX6_back_13 (by decide) (fun c13 => ?_) (fun c13 => ?_)
    · refine ro_aload_n F dX6_back_23 0 rfl ?_
      refine mo_gi F 14 (Nat.le_of_ble_eq_true rfl) rfl lkX6_159 rfl dX6_back_24 hnw ?_
      exact Wd.to J27_13 rfl rfl (congrArg (fun z => ([Value.int z] : List Value)) (congrArg nI (by simp only [if_neg c13])))
    · refine ro_aload_n F dX6_back_16 0 rfl ?_
      refine mo_gi F 11 (Nat.le_of_ble_eq_true rfl) rfl lkX6_156 rfl dX6_back_17 hnc ?_
      refine ro_goto (tgt := 27) F dX6_back_20 (by decide) ?_
      exact Wd.to J27_13 rfl rfl (congrArg (fun z => ([Value.int z] : List Value)) (congrArg nI (by simp only [if_pos c13])))
  · refine ro_bipush (v := (-2)) F dX6_back_9 (by decide) ?_
    exact hret _ _ _ _ _ _ (Nat.le_refl _) (Nat.le_refl _) dX6_back_11 rfl ⟨congrArg (fun z => some (Value.int z)) (by simp only [rX6_back, if_neg c6]), (by simp only [fX6_back, if_neg c6])⟩
noncomputable def rX6_seen (day : Int32) (saver : Int32) (much : Int32) (ne : Nat) : Int32 := (if ¬ (day < (nI 0)) ∧ (¬ ((nI 19) < day)) then (if ¬ (saver < (nI 0)) ∧ (¬ ((nI 7) < saver)) then (if ¬ (much < (nI 0)) ∧ (¬ ((nI 999) < much)) then (if ne = 8 then (-4) else (nI (ne + 1))) else (-2)) else (-2)) else (-2))
noncomputable def fX6_seen (day : Int32) (saver : Int32) (much : Int32) (ne : Nat) (m : Mem) : Mem := (if ¬ (day < (nI 0)) ∧ (¬ ((nI 19) < day)) then (if ¬ (saver < (nI 0)) ∧ (¬ ((nI 7) < saver)) then (if ¬ (much < (nI 0)) ∧ (¬ ((nI 999) < much)) then (if ne = 8 then m else (m2 (m2 (m2 (m2 m 30 ne day) 31 ne saver) 32 ne much) 29 0 (nI (ne + 1)))) else m) else m) else m)
theorem fr_fX6_seen (day : Int32) (saver : Int32) (much : Int32) (ne : Nat) (m : Mem) (f : Nat) (h29 : f ≠ 29) (h30 : f ≠ 30) (h31 : f ≠ 31) (h32 : f ≠ 32) : fX6_seen day saver much ne m f = m f := ite_fr (ite_fr (ite_fr (ite_fr (rfl) ((m2_ff _ _ h29).trans ((m2_ff _ _ h32).trans ((m2_ff _ _ h31).trans ((m2_ff _ _ h30).trans (rfl)))))) (rfl)) (rfl)) (rfl)
set_option maxHeartbeats 4000000 in
set_option maxRecDepth 100000 in
theorem metX6_seen (l : Launch) (X : Mx) (m : Mem) (day : Int32) (saver : Int32) (much : Int32) (ne : Nat) (hne : m 29 0 = nI ne) (lne : ne ≤ 8) : Cn l yX6_seen (ws_ yX6_seen cX6_seen 4 (some .int)) 3 0 0 [.ref (mx_ad X 40), .int day, .int saver, .int much] (PicM X) (KM X) (mx_A X) m (fun rv_ w_ => rv_ = some (.int (rX6_seen day saver much ne)) ∧ w_ = (fX6_seen day saver much ne m)) := by
  refine cn_i (own := RX6) rfl (Nat.le_of_ble_eq_true rfl) rfl (fun g hgl hA F hret => ?_)
  refine Wd.eql (lv' := [(0, .ref (mx_ad X 40)), (1, .int day), (2, .int saver), (3, .int much)]) rfl ?_
  refine ro_iload_n F dX6_seen_0 1 rfl ?_
  refine mo_cS (rest := []) F hA (metX6_isDay (gx_l g) X m day ) cwX6_153 hdX6_isDay rfl (Nat.le_of_ble_eq_true rfl) (Nat.le_of_ble_eq_true rfl) (Nat.le_refl _) (Nat.le_refl _) rfl (Nat.le_of_ble_eq_true rfl) dX6_seen_1 ?_
  refine ro_if_eqB (tgt := 28) F dX6_seen_4 (by decide) (fun c4 => ?_) (fun c4 => ?_)
  · refine ro_bipush (v := (-2)) F dX6_seen_28 (by decide) ?_
    exact hret _ _ _ _ _ _ (Nat.le_refl _) (Nat.le_refl _) dX6_seen_30 rfl ⟨congrArg (fun z => some (Value.int z)) (by simp only [rX6_seen, if_neg c4]), (by simp only [fX6_seen, if_neg c4])⟩
  · refine ro_iload_n F dX6_seen_7 2 rfl ?_
    refine ro_iconst (v := (nI 0)) F dX6_seen_8 (by decide) ?_
    refine ro_bipush (v := (nI 7)) F dX6_seen_9 (by decide) ?_
    refine mo_cS (rest := []) F hA (metX6_in (gx_l g) X m saver (nI 0) (nI 7) ) cwX6_104 hdX6_in rfl (Nat.le_of_ble_eq_true rfl) (Nat.le_of_ble_eq_true rfl) (Nat.le_refl _) (Nat.le_refl _) rfl (Nat.le_of_ble_eq_true rfl) dX6_seen_11 ?_
    refine ro_if_eqB (tgt := 28) F dX6_seen_14 (by decide) (fun c14 => ?_) (fun c14 => ?_)
    · refine ro_bipush (v := (-2)) F dX6_seen_28 (by decide) ?_
      exact hret _ _ _ _ _ _ (Nat.le_refl _) (Nat.le_refl _) dX6_seen_30 rfl ⟨congrArg (fun z => some (Value.int z)) (by simp only [rX6_seen, if_pos c4, if_neg c14]), (by simp only [fX6_seen, if_pos c4, if_neg c14])⟩
    · refine ro_iload_n F dX6_seen_17 3 rfl ?_
      refine ro_iconst (v := (nI 0)) F dX6_seen_18 (by decide) ?_
      refine ro_sipush (v := (nI 999)) F dX6_seen_19 (by decide) ?_
      refine mo_cS (rest := []) F hA (metX6_in (gx_l g) X m much (nI 0) (nI 999) ) cwX6_104 hdX6_in rfl (Nat.le_of_ble_eq_true rfl) (Nat.le_of_ble_eq_true rfl) (Nat.le_refl _) (Nat.le_refl _) rfl (Nat.le_of_ble_eq_true rfl) dX6_seen_22 ?_
      refine ro_if_neB (tgt := 31) F dX6_seen_25 (by decide) (fun c25 => ?_) (fun c25 => ?_)
      · refine ro_aload_n F dX6_seen_31 0 rfl ?_
        refine mo_gi F 29 (Nat.le_of_ble_eq_true rfl) rfl lkX6_248 rfl dX6_seen_32 hne ?_
        refine ro_bipush (v := (nI 8)) F dX6_seen_35 (by decide) ?_
        refine ro_icmp_neN (tgt := 43) F dX6_seen_37 (by decide) (by omega) (by omega) (fun c37 => ?_) (fun c37 => ?_)
        · refine ro_aload_n F dX6_seen_43 0 rfl ?_
          refine mo_gr F 30 (Nat.le_of_ble_eq_true rfl) (by decide) lkX6_68 rfl dX6_seen_44 ?_
          refine ro_aload_n F dX6_seen_47 0 rfl ?_
          refine mo_gi F 29 (Nat.le_of_ble_eq_true rfl) rfl lkX6_248 rfl dX6_seen_48 hne ?_
          refine ro_iload_n F dX6_seen_51 1 rfl ?_
          refine mo_stN F hA 30 8 rfl (by decide) (by decide) rfl (by omega) dX6_seen_52 ?_
          refine ro_aload_n F dX6_seen_53 0 rfl ?_
          refine mo_gr F 31 (Nat.le_of_ble_eq_true rfl) (by decide) lkX6_71 rfl dX6_seen_54 ?_
          refine ro_aload_n F dX6_seen_57 0 rfl ?_
          refine mo_gi F 29 (Nat.le_of_ble_eq_true rfl) rfl lkX6_248 rfl dX6_seen_58 ((m2_f _ _ (by decide)).trans (hne)) ?_
          refine ro_iload_n F dX6_seen_61 2 rfl ?_
          refine mo_stN F hA 31 8 rfl (by decide) (by decide) rfl (by omega) dX6_seen_62 ?_
          refine ro_aload_n F dX6_seen_63 0 rfl ?_
          refine mo_gr F 32 (Nat.le_of_ble_eq_true rfl) (by decide) lkX6_74 rfl dX6_seen_64 ?_
          refine ro_aload_n F dX6_seen_67 0 rfl ?_
          refine mo_gi F 29 (Nat.le_of_ble_eq_true rfl) rfl lkX6_248 rfl dX6_seen_68 ((m2_f _ _ (by decide)).trans ((m2_f _ _ (by decide)).trans (hne))) ?_
          refine ro_iload_n F dX6_seen_71 3 rfl ?_
          refine mo_stN F hA 32 8 rfl (by decide) (by decide) rfl (by omega) dX6_seen_72 ?_
          refine ro_aload_n F dX6_seen_73 0 rfl ?_
          refine ro_dup F dX6_seen_74 rfl ?_
          refine mo_gi F 29 (Nat.le_of_ble_eq_true rfl) rfl lkX6_248 rfl dX6_seen_75 ((m2_f _ _ (by decide)).trans ((m2_f _ _ (by decide)).trans ((m2_f _ _ (by decide)).trans (hne)))) ?_
          refine ro_iconst (v := (nI 1)) F dX6_seen_78 (by decide) ?_
          refine ro_iaddN F dX6_seen_79 ?_
          refine mo_put F hA 29 (Nat.le_of_ble_eq_true rfl) rfl rfl rfl lkX6_248 rfl dX6_seen_80 ?_
          refine ro_aload_n F dX6_seen_83 0 rfl ?_
          refine mo_gi F 29 (Nat.le_of_ble_eq_true rfl) rfl lkX6_248 rfl dX6_seen_84 (m2_self _ _ _ _) ?_
          exact hret _ _ _ _ _ _ (Nat.le_refl _) (Nat.le_refl _) dX6_seen_87 rfl ⟨congrArg (fun z => some (Value.int z)) (by simp only [rX6_seen, if_pos c4, if_pos c14, if_pos c25, if_neg c37]), (by simp only [fX6_seen, if_pos c4, if_pos c14, if_pos c25, if_neg c37])⟩
        · refine ro_bipush (v := (-4)) F dX6_seen_40 (by decide) ?_
          exact hret _ _ _ _ _ _ (Nat.le_refl _) (Nat.le_refl _) dX6_seen_42 rfl ⟨congrArg (fun z => some (Value.int z)) (by simp only [rX6_seen, if_pos c4, if_pos c14, if_pos c25, if_pos c37]), (by simp only [fX6_seen, if_pos c4, if_pos c14, if_pos c25, if_pos c37])⟩
      · refine ro_bipush (v := (-2)) F dX6_seen_28 (by decide) ?_
        exact hret _ _ _ _ _ _ (Nat.le_refl _) (Nat.le_refl _) dX6_seen_30 rfl ⟨congrArg (fun z => some (Value.int z)) (by simp only [rX6_seen, if_pos c4, if_pos c14, if_neg c25]), (by simp only [fX6_seen, if_pos c4, if_pos c14, if_neg c25])⟩
noncomputable def rX6_forget (m : Mem) : Int32 := (m 29 0)
noncomputable def fX6_forget (m : Mem) : Mem := (m2 m 29 0 (nI 0))
theorem fr_fX6_forget (m : Mem) (f : Nat) (h29 : f ≠ 29) : fX6_forget m f = m f := (m2_ff _ _ h29).trans (rfl)
set_option maxHeartbeats 4000000 in
set_option maxRecDepth 100000 in
theorem metX6_forget (l : Launch) (X : Mx) (m : Mem)    : Cn l yX6_forget (ws_ yX6_forget cX6_forget 2 (some .int)) 1 0 0 [.ref (mx_ad X 40)] (PicM X) (KM X) (mx_A X) m (fun rv_ w_ => rv_ = some (.int (rX6_forget m)) ∧ w_ = (fX6_forget m)) := by
  refine cn_i (own := RX6) rfl (Nat.le_of_ble_eq_true rfl) rfl (fun g hgl hA F hret => ?_)
  refine Wd.eql (lv' := [(0, .ref (mx_ad X 40))]) rfl ?_
  refine ro_aload_n F dX6_forget_0 0 rfl ?_
  refine mo_gi F 29 (Nat.le_of_ble_eq_true rfl) rfl lkX6_248 rfl dX6_forget_1 rfl ?_
  refine ro_istore_n (lv' := [(0, .ref (mx_ad X 40)), (1, .int (m 29 0))]) F dX6_forget_4 (Nat.le_of_ble_eq_true rfl) [1, 0] rfl ?_
  refine ro_aload_n F dX6_forget_5 0 rfl ?_
  refine ro_iconst (v := (nI 0)) F dX6_forget_6 (by decide) ?_
  refine mo_put F hA 29 (Nat.le_of_ble_eq_true rfl) rfl rfl rfl lkX6_248 rfl dX6_forget_7 ?_
  refine ro_iload_n F dX6_forget_10 1 rfl ?_
  exact hret _ _ _ _ _ _ (Nat.le_refl _) (Nat.le_refl _) dX6_forget_11 rfl ⟨congrArg (fun z => some (Value.int z)) (rfl), rfl⟩
noncomputable def lX6_isSeen_8 (np : Nat) (ns : Nat) (sd : Nat → Nat) (ss : Nat → Nat) (m : Mem) (i8 : Nat) (b8 : Int32) : Int32 := (if b8 = 0 then b8 else (b2 (¬ (ns ≤ (ss i8)) ∧ (((fX6_runs np ns m) 20 ((20 * (ss i8)) + (sd i8))) = (m 32 i8)))))
noncomputable def rX6_isSeen (np : Nat) (ns : Nat) (ne : Nat) (sd : Nat → Nat) (ss : Nat → Nat) (m : Mem) : Int32 := (it (lX6_isSeen_8 np ns sd ss m) (nI 1) ne)
noncomputable def fX6_isSeen (np : Nat) (ns : Nat) (m : Mem) : Mem := (fX6_runs np ns m)
theorem fr_fX6_isSeen (np : Nat) (ns : Nat) (m : Mem) (f : Nat) (h19 : f ≠ 19) (h20 : f ≠ 20) (h21 : f ≠ 21) (h22 : f ≠ 22) (h23 : f ≠ 23) (h24 : f ≠ 24) (h25 : f ≠ 25) (h26 : f ≠ 26) (h27 : f ≠ 27) : fX6_isSeen np ns m f = m f := (fr_fX6_runs np ns m f h19 h20 h21 h22 h23 h24 h25 h26 h27).trans (rfl)
set_option maxHeartbeats 4000000 in
set_option maxRecDepth 100000 in
theorem metX6_isSeen (l : Launch) (X : Mx) (m : Mem)  (np : Nat) (ns : Nat) (ne : Nat) (sd : Nat → Nat) (ss : Nat → Nat) (hnp : m 6 0 = nI np) (lnp : np ≤ 9) (hns : m 2 0 = nI ns) (lns : ns ≤ 8) (hne : m 29 0 = nI ne) (lne : ne ≤ 8) (hsd : ∀ j, j < ne → m 30 j = nI (sd j)) (lsd : ∀ j, j < ne → sd j < 20) (hss : ∀ j, j < ne → m 31 j = nI (ss j)) (lss : ∀ j, j < ne → ss j < 8) : Cn l yX6_isSeen (ws_ yX6_isSeen cX6_isSeen 3 (some .boolean)) 4 0 0 [.ref (mx_ad X 40)] (PicM X) (KM X) (mx_A X) m (fun rv_ w_ => rv_ = some (.int (rX6_isSeen np ns ne sd ss m)) ∧ w_ = (fX6_isSeen np ns m)) := by
  refine cn_i (own := RX6) rfl (Nat.le_of_ble_eq_true rfl) rfl (fun g hgl hA F hret => ?_)
  refine Wd.eql (lv' := [(0, .ref (mx_ad X 40))]) rfl ?_
  refine ro_aload_n F dX6_isSeen_0 0 rfl ?_
  refine mo_cV (rest := []) F hA (metX6_runs (gx_l g) X m np ns hnp (by omega) hns (by omega)) cwX6_204 hdX6_runs rfl (Nat.le_of_ble_eq_true rfl) (Nat.le_of_ble_eq_true rfl) (Nat.le_refl _) (Nat.le_refl _) rfl (Nat.le_of_ble_eq_true rfl) dX6_isSeen_1 ?_
  refine ro_iconst (v := (nI 1)) F dX6_isSeen_4 (by decide) ?_
  refine ro_istore_n (lv' := [(0, .ref (mx_ad X 40)), (1, .int (nI 1))]) F dX6_isSeen_5 (Nat.le_of_ble_eq_true rfl) [1, 0] rfl ?_
  refine ro_iconst (v := (nI 0)) F dX6_isSeen_6 (by decide) ?_
  refine ro_istore_n (lv' := [(0, .ref (mx_ad X 40)), (1, .int (nI 1)), (2, .int (nI 0))]) F dX6_isSeen_7 (Nat.le_of_ble_eq_true rfl) [1, 2, 0] rfl ?_
  have EX8 : Wd (PicM X) g 3 (fX6_runs np ns m) 0 0 75 [(1, .int (it (lX6_isSeen_8 np ns sd ss m) (nI 1) ne))] [] := by
    refine ro_iload_n F dX6_isSeen_75 0 rfl ?_
    exact hret _ _ _ _ _ _ (Nat.le_refl _) (Nat.le_refl _) dX6_isSeen_76 (it_inv (P := fun z => narrow .boolean (.int z) = .int z) rfl (fun i b h => by unfold lX6_isSeen_8; split; exact h; exact b2_nar) ne) ⟨congrArg (fun z => some (Value.int z)) (rfl), rfl⟩
  refine it_loop2 ne (lX6_isSeen_8 np ns sd ss m) (nI 1) (fun _ _ => True) (fun (i8 : Nat) (b8 : Int32) => Wd (PicM X) g 3 (fX6_runs np ns m) 0 0 8 [(0, .ref (mx_ad X 40)), (1, .int b8), (2, .int (nI i8))] []) trivial (fun _ _ _ _ => trivial) (fun i8 b8 hi8 hf8 hq8 ih8 => ?_) (fun b8 hf8 he8 => ?_)
  · refine ro_iload_n F dX6_isSeen_8 2 rfl ?_
    refine ro_aload_n F dX6_isSeen_9 0 rfl ?_
    refine mo_gi F 29 (Nat.le_of_ble_eq_true rfl) rfl lkX6_248 rfl dX6_isSeen_10 ((congrFun (fr_fX6_runs np ns m 29 (by decide) (by decide) (by decide) (by decide) (by decide) (by decide) (by decide) (by decide) (by decide)) 0).trans (hne)) ?_
    refine ro_icmp_geN (tgt := 75) F dX6_isSeen_13 (by decide) (by omega) (by omega) (fun c13 => absurd c13 (by omega)) (fun c13 => ?_)
    refine ro_iload_n F dX6_isSeen_16 1 rfl ?_
    refine ro_if_eq (tgt := 75) F dX6_isSeen_17 (by decide) (fun c17 => ?_) (fun c17 => ?_)
    · exact Wd.sub (lv' := [(1, .int b8)]) [1] rfl <| Wd.to EX8 rfl (congrArg (fun z => ([(1, Value.int z)] : Lv)) (hq8.trans (it_stay (P := fun z => z = 0) (fun i z hz => by simp only [lX6_isSeen_8, if_pos hz]) (by rw [← hq8]; exact c17) (Nat.le_of_lt hi8)).symm)) rfl
    · refine ro_aload_n F dX6_isSeen_20 0 rfl ?_
      refine mo_gr F 31 (Nat.le_of_ble_eq_true rfl) (by decide) lkX6_71 rfl dX6_isSeen_21 ?_
      refine ro_iload_n F dX6_isSeen_24 2 rfl ?_
      have hz := lss i8 (by omega)
      refine mo_ldN F 31 8 rfl (by decide) (by decide) rfl (by omega) dX6_isSeen_25 ((congrFun (fr_fX6_runs np ns m 31 (by decide) (by decide) (by decide) (by decide) (by decide) (by decide) (by decide) (by decide) (by decide)) i8).trans (hss i8 (by omega))) ?_
      refine ro_aload_n F dX6_isSeen_26 0 rfl ?_
      refine mo_gi F 2 (Nat.le_of_ble_eq_true rfl) rfl lkX6_122 rfl dX6_isSeen_27 ((congrFun (fr_fX6_runs np ns m 2 (by decide) (by decide) (by decide) (by decide) (by decide) (by decide) (by decide) (by decide) (by decide)) 0).trans (hns)) ?_
      have J68_30 : Wd (PicM X) g 3 (fX6_runs np ns m) 0 0 68 [(0, .ref (mx_ad X 40)), (2, .int (nI i8))] [.int (b2 (¬ (ns ≤ (ss i8)) ∧ (((fX6_runs np ns m) 20 ((20 * (ss i8)) + (sd i8))) = (m 32 i8))))] := by
        refine ro_istore_n (lv' := [(0, .ref (mx_ad X 40)), (1, .int (b2 (¬ (ns ≤ (ss i8)) ∧ (((fX6_runs np ns m) 20 ((20 * (ss i8)) + (sd i8))) = (m 32 i8))))), (2, .int (nI i8))]) F dX6_isSeen_68 (Nat.le_of_ble_eq_true rfl) [1, 0, 2] rfl ?_
        refine ro_iincN (z := 1) (lv' := [(0, .ref (mx_ad X 40)), (1, .int (b2 (¬ (ns ≤ (ss i8)) ∧ (((fX6_runs np ns m) 20 ((20 * (ss i8)) + (sd i8))) = (m 32 i8))))), (2, .int (nI (i8 + 1)))]) F dX6_isSeen_69 2 rfl (Nat.le_of_ble_eq_true rfl) [1, 2, 0] rfl ?_
        refine ro_goto (tgt := 8) F dX6_isSeen_72 (by decide) ?_
        exact Wd.to ih8 rfl ((congrArg (fun z => ([(0, .ref (mx_ad X 40)), (1, Value.int z), (2, .int (nI (i8 + 1)))] : Lv)) (by simp only [if_neg c17])).trans (congrArg (fun z => ([(0, .ref (mx_ad X 40)), (1, .int (if b8 = 0 then b8 else (b2 (¬ (ns ≤ (ss i8)) ∧ (((fX6_runs np ns m) 20 ((20 * (ss i8)) + (sd i8))) = (m 32 i8)))))), (2, Value.int z)] : Lv)) (congrArg nI (by simp only [if_neg c17])))) rfl
      refine ro_icmp_geN (tgt := 67) F dX6_isSeen_30 (by decide) (by omega) (by omega) (fun c30 => ?_) (fun c30 => ?_)
      · refine ro_iconst (v := (nI 0)) F dX6_isSeen_67 (by decide) ?_
        exact Wd.sub (lv' := [(0, .ref (mx_ad X 40)), (2, .int (nI i8))]) [0, 2] rfl <| Wd.to J68_30 rfl rfl (congrArg (fun z => ([Value.int z] : List Value)) ((b2_f (by simp [c30])).symm))
      · refine ro_aload_n F dX6_isSeen_33 0 rfl ?_
        refine mo_gr F 20 (Nat.le_of_ble_eq_true rfl) (by decide) lkX6_50 rfl dX6_isSeen_34 ?_
        refine ro_bipush (v := (nI 20)) F dX6_isSeen_37 (by decide) ?_
        refine ro_aload_n F dX6_isSeen_39 0 rfl ?_
        refine mo_gr F 31 (Nat.le_of_ble_eq_true rfl) (by decide) lkX6_71 rfl dX6_isSeen_40 ?_
        refine ro_iload_n F dX6_isSeen_43 2 rfl ?_
        have hz := lss i8 (by omega)
        refine mo_ldN F 31 8 rfl (by decide) (by decide) rfl (by omega) dX6_isSeen_44 ((congrFun (fr_fX6_runs np ns m 31 (by decide) (by decide) (by decide) (by decide) (by decide) (by decide) (by decide) (by decide) (by decide)) i8).trans (hss i8 (by omega))) ?_
        refine ro_imulN F dX6_isSeen_45 ?_
        refine ro_aload_n F dX6_isSeen_46 0 rfl ?_
        refine mo_gr F 30 (Nat.le_of_ble_eq_true rfl) (by decide) lkX6_68 rfl dX6_isSeen_47 ?_
        refine ro_iload_n F dX6_isSeen_50 2 rfl ?_
        have hz := lsd i8 (by omega)
        refine mo_ldN F 30 8 rfl (by decide) (by decide) rfl (by omega) dX6_isSeen_51 ((congrFun (fr_fX6_runs np ns m 30 (by decide) (by decide) (by decide) (by decide) (by decide) (by decide) (by decide) (by decide) (by decide)) i8).trans (hsd i8 (by omega))) ?_
        refine ro_iaddN F dX6_isSeen_52 ?_
        refine mo_ldN F 20 160 rfl (by decide) (by decide) rfl (by omega) dX6_isSeen_53 rfl ?_
        refine ro_aload_n F dX6_isSeen_54 0 rfl ?_
        refine mo_gr F 32 (Nat.le_of_ble_eq_true rfl) (by decide) lkX6_74 rfl dX6_isSeen_55 ?_
        refine ro_iload_n F dX6_isSeen_58 2 rfl ?_
        refine mo_ldN F 32 8 rfl (by decide) (by decide) rfl (by omega) dX6_isSeen_59 (congrFun (fr_fX6_runs np ns m 32 (by decide) (by decide) (by decide) (by decide) (by decide) (by decide) (by decide) (by decide) (by decide)) i8) ?_
        refine ro_icmp_ne (tgt := 67) F dX6_isSeen_60 (by decide) (fun c60 => ?_) (fun c60 => ?_)
        · refine ro_iconst (v := (nI 0)) F dX6_isSeen_67 (by decide) ?_
          exact Wd.sub (lv' := [(0, .ref (mx_ad X 40)), (2, .int (nI i8))]) [0, 2] rfl <| Wd.to J68_30 rfl rfl (congrArg (fun z => ([Value.int z] : List Value)) ((b2_f (by simp [(Nat.not_le.mpr c30), c60])).symm))
        · refine ro_iconst (v := (nI 1)) F dX6_isSeen_63 (by decide) ?_
          refine ro_goto (tgt := 68) F dX6_isSeen_64 (by decide) ?_
          exact Wd.sub (lv' := [(0, .ref (mx_ad X 40)), (2, .int (nI i8))]) [0, 2] rfl <| Wd.to J68_30 rfl rfl (congrArg (fun z => ([Value.int z] : List Value)) ((b2_t (by simp [(Nat.not_le.mpr c30), c60])).symm))
  subst he8
  refine ro_iload_n F dX6_isSeen_8 2 rfl ?_
  refine ro_aload_n F dX6_isSeen_9 0 rfl ?_
  refine mo_gi F 29 (Nat.le_of_ble_eq_true rfl) rfl lkX6_248 rfl dX6_isSeen_10 ((congrFun (fr_fX6_runs np ns m 29 (by decide) (by decide) (by decide) (by decide) (by decide) (by decide) (by decide) (by decide) (by decide)) 0).trans (hne)) ?_
  refine ro_icmp_geN (tgt := 75) F dX6_isSeen_13 (by decide) (by omega) (by omega) (fun c13 => ?_) (fun c13 => absurd c13 (by omega))
  exact Wd.sub (lv' := [(1, .int (it (lX6_isSeen_8 np ns sd ss m) (nI 1) ne))]) [1] rfl EX8
