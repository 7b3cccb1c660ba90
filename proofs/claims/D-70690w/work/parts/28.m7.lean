noncomputable def lX6_sheet_59 (s : Nat) (i59 : Nat) (b59 : Mem) : Mem := (m2 b59 37 ((60 * s) + i59) (nI 0))
theorem fr_lX6_sheet_59 (s : Nat) (i59 : Nat) (b59 : Mem) (f : Nat) (h37 : f ≠ 37) : lX6_sheet_59 s i59 b59 f = b59 f := (m2_ff _ _ h37).trans (rfl)
theorem fi_lX6_sheet_59 (s : Nat) (b59 : Mem) (n_ : Nat) (f : Nat) (h37 : f ≠ 37) : (it (lX6_sheet_59 s) b59 n_) f = b59 f := it_fr (fun i_ b_ => fr_lX6_sheet_59 s i_ b_ f h37) n_
noncomputable def rX6_sheet (form : Int32) (n : Int32) : Int32 := (if ¬ (form < (nI 0)) ∧ (¬ ((nI 2) < form)) then (if n ≤ (nI 60) then (if 0 ≤ n then n else (rX6_meets (nI 5))) else (-2)) else (-2))
noncomputable def fX6_sheet (s : Nat) (form : Int32) (n : Int32) (m : Mem) : Mem := (if ¬ (form < (nI 0)) ∧ (¬ ((nI 2) < form)) then (if n ≤ (nI 60) then (if 0 ≤ n then (it (lX6_sheet_59 s) (m2 (m2 (m2 m 34 s (nI 1)) 35 s form) 36 s n) 60) else (fX6_meets (nI 5) m)) else m) else m)
theorem fr_fX6_sheet (s : Nat) (form : Int32) (n : Int32) (m : Mem) (f : Nat) (h34 : f ≠ 34) (h35 : f ≠ 35) (h36 : f ≠ 36) (h37 : f ≠ 37) (h39 : f ≠ 39) : fX6_sheet s form n m f = m f := ite_fr (ite_fr (ite_fr ((fi_lX6_sheet_59 s (m2 (m2 (m2 m 34 s (nI 1)) 35 s form) 36 s n) 60 f h37).trans ((m2_ff _ _ h36).trans ((m2_ff _ _ h35).trans ((m2_ff _ _ h34).trans (rfl))))) ((fr_fX6_meets (nI 5) m f h39).trans (rfl))) (rfl)) (rfl)
set_option maxHeartbeats 4000000 in
set_option maxRecDepth 100000 in
theorem metX6_sheet (l : Launch) (X : Mx) (m : Mem) (s : Nat) (form : Int32) (n : Int32)  (hs : s < 4) : Cn l yX6_sheet (ws_ yX6_sheet cX6_sheet 5 (some .int)) 3 0 0 [.ref (mx_ad X 40), .int (nI s), .int form, .int n] (PicM X) (KM X) (mx_A X) m (fun rv_ w_ => rv_ = some (.int (rX6_sheet form n)) ∧ w_ = (fX6_sheet s form n m)) := by
  refine cn_i (own := RX6) rfl (Nat.le_of_ble_eq_true rfl) rfl (fun g hgl hA F hret => ?_)
  refine Wd.eql (lv' := [(0, .ref (mx_ad X 40)), (1, .int (nI s)), (2, .int form), (3, .int n)]) rfl ?_
  refine ro_iload_n F dX6_sheet_0 1 rfl ?_
  refine mo_cS (rest := []) F hA (metX6_isSheet (gx_l g) X m (nI s) ) cwX6_162 hdX6_isSheet rfl (Nat.le_of_ble_eq_true rfl) (Nat.le_of_ble_eq_true rfl) (Nat.le_refl _) (Nat.le_refl _) rfl (Nat.le_of_ble_eq_true rfl) dX6_sheet_1 ?_
  refine ro_if_eqB (tgt := 22) F dX6_sheet_4 (by decide) (fun c4 => absurd (in_ok (by omega) (by omega) (by decide)) c4) (fun c4 => ?_)
  refine ro_iload_n F dX6_sheet_7 2 rfl ?_
  refine ro_iconst (v := (nI 0)) F dX6_sheet_8 (by decide) ?_
  refine ro_iconst (v := (nI 2)) F dX6_sheet_9 (by decide) ?_
  refine mo_cS (rest := []) F hA (metX6_in (gx_l g) X m form (nI 0) (nI 2) ) cwX6_104 hdX6_in rfl (Nat.le_of_ble_eq_true rfl) (Nat.le_of_ble_eq_true rfl) (Nat.le_refl _) (Nat.le_refl _) rfl (Nat.le_of_ble_eq_true rfl) dX6_sheet_10 ?_
  refine ro_if_eqB (tgt := 22) F dX6_sheet_13 (by decide) (fun c13 => ?_) (fun c13 => ?_)
  · refine ro_bipush (v := (-2)) F dX6_sheet_22 (by decide) ?_
    exact hret _ _ _ _ _ _ (Nat.le_refl _) (Nat.le_refl _) dX6_sheet_24 rfl ⟨congrArg (fun z => some (Value.int z)) (by simp only [rX6_sheet, if_pos c4, if_neg c13]), (by simp only [fX6_sheet, if_pos c4, if_neg c13])⟩
  · refine ro_iload_n F dX6_sheet_16 3 rfl ?_
    refine ro_bipush (v := (nI 60)) F dX6_sheet_17 (by decide) ?_
    refine ro_icmp_le (tgt := 25) F dX6_sheet_19 (by decide) (fun c19 => ?_) (fun c19 => ?_)
    · refine ro_iload_n F dX6_sheet_25 3 rfl ?_
      refine ro_if_ge (tgt := 35) F dX6_sheet_26 (by decide) (fun c26 => ?_) (fun c26 => ?_)
      · refine ro_aload_n F dX6_sheet_35 0 rfl ?_
        refine mo_gr F 34 (Nat.le_of_ble_eq_true rfl) (by decide) lkX6_80 rfl dX6_sheet_36 ?_
        refine ro_iload_n F dX6_sheet_39 1 rfl ?_
        refine ro_iconst (v := (nI 1)) F dX6_sheet_40 (by decide) ?_
        refine mo_stZ F hA 34 4 rfl (by decide) (by decide) rfl (by omega) (by decide) dX6_sheet_41 ?_
        refine ro_aload_n F dX6_sheet_42 0 rfl ?_
        refine mo_gr F 35 (Nat.le_of_ble_eq_true rfl) (by decide) lkX6_83 rfl dX6_sheet_43 ?_
        refine ro_iload_n F dX6_sheet_46 1 rfl ?_
        refine ro_iload_n F dX6_sheet_47 2 rfl ?_
        refine mo_stN F hA 35 4 rfl (by decide) (by decide) rfl (by omega) dX6_sheet_48 ?_
        refine ro_aload_n F dX6_sheet_49 0 rfl ?_
        refine mo_gr F 36 (Nat.le_of_ble_eq_true rfl) (by decide) lkX6_86 rfl dX6_sheet_50 ?_
        refine ro_iload_n F dX6_sheet_53 1 rfl ?_
        refine ro_iload_n F dX6_sheet_54 3 rfl ?_
        refine mo_stN F hA 36 4 rfl (by decide) (by decide) rfl (by omega) dX6_sheet_55 ?_
        refine ro_iconst (v := (nI 0)) F dX6_sheet_56 (by decide) ?_
        refine ro_istore (lv' := [(0, .ref (mx_ad X 40)), (1, .int (nI s)), (2, .int form), (3, .int n), (4, .int (nI 0))]) F dX6_sheet_57 (Nat.le_of_ble_eq_true rfl) [1, 2, 3, 4, 0] rfl ?_
        refine Wd.sub (lv' := [(0, .ref (mx_ad X 40)), (1, .int (nI s)), (3, .int n), (4, .int (nI 0))]) [0, 1, 3, 4] rfl ?_
        refine it_loop 60 (lX6_sheet_59 s) (m2 (m2 (m2 m 34 s (nI 1)) 35 s form) 36 s n) (fun (_ : Nat) (b59 : Mem) => ∀ f : Nat, f ≠ 37 → b59 f = (m2 (m2 (m2 m 34 s (nI 1)) 35 s form) 36 s n) f) (fun (i59 : Nat) (b59 : Mem) => Wd (PicM X) g 5 b59 0 0 59 [(0, .ref (mx_ad X 40)), (1, .int (nI s)), (3, .int n), (4, .int (nI i59))] []) (fun f _ => rfl) (fun i_ b_ _ hb f h37 => (fr_lX6_sheet_59 s i_ b_ f h37).trans (hb f h37)) (fun i59 b59 hi59 hf59 ih59 => ?_) (fun b59 hf59 he59 => ?_)
        · refine ro_iload F dX6_sheet_59 3 rfl ?_
          refine ro_bipush (v := (nI 60)) F dX6_sheet_61 (by decide) ?_
          refine ro_icmp_geN (tgt := 85) F dX6_sheet_63 (by decide) (by omega) (by omega) (fun c63 => absurd c63 (by omega)) (fun c63 => ?_)
          refine ro_aload_n F dX6_sheet_66 0 rfl ?_
          refine mo_gr F 37 (Nat.le_of_ble_eq_true rfl) (by decide) lkX6_89 rfl dX6_sheet_67 ?_
          refine ro_bipush (v := (nI 60)) F dX6_sheet_70 (by decide) ?_
          refine ro_iload_n F dX6_sheet_72 1 rfl ?_
          refine ro_imulN F dX6_sheet_73 ?_
          refine ro_iload F dX6_sheet_74 3 rfl ?_
          refine ro_iaddN F dX6_sheet_76 ?_
          refine ro_iconst (v := (nI 0)) F dX6_sheet_77 (by decide) ?_
          refine mo_stN F hA 37 240 rfl (by decide) (by decide) rfl (by omega) dX6_sheet_78 ?_
          refine ro_iincN (z := 1) (lv' := [(0, .ref (mx_ad X 40)), (1, .int (nI s)), (3, .int n), (4, .int (nI (i59 + 1)))]) F dX6_sheet_79 3 rfl (Nat.le_of_ble_eq_true rfl) [1, 2, 3, 0] rfl ?_
          refine ro_goto (tgt := 59) F dX6_sheet_82 (by decide) ?_
          exact ih59
        subst he59
        refine ro_iload F dX6_sheet_59 3 rfl ?_
        refine ro_bipush (v := (nI 60)) F dX6_sheet_61 (by decide) ?_
        refine ro_icmp_geN (tgt := 85) F dX6_sheet_63 (by decide) (by omega) (by omega) (fun c63 => ?_) (fun c63 => absurd c63 (by omega))
        refine ro_iload_n F dX6_sheet_85 2 rfl ?_
        exact hret _ _ _ _ _ _ (Nat.le_refl _) (Nat.le_refl _) dX6_sheet_86 rfl ⟨congrArg (fun z => some (Value.int z)) (by simp only [rX6_sheet, if_pos c4, if_pos c13, if_pos c19, if_pos c26]), (by simp only [fX6_sheet, if_pos c4, if_pos c13, if_pos c19, if_pos c26])⟩
      · refine ro_aload_n F dX6_sheet_29 0 rfl ?_
        refine ro_iconst (v := (nI 5)) F dX6_sheet_30 (by decide) ?_
        refine mo_cV (rest := []) F hA (metX6_meets (gx_l g) X m (nI 5) ) cwX6_165 hdX6_meets rfl (Nat.le_of_ble_eq_true rfl) (Nat.le_of_ble_eq_true rfl) (Nat.le_refl _) (Nat.le_refl _) rfl (Nat.le_of_ble_eq_true rfl) dX6_sheet_31 ?_
        exact hret _ _ _ _ _ _ (Nat.le_refl _) (Nat.le_refl _) dX6_sheet_34 rfl ⟨congrArg (fun z => some (Value.int z)) (by simp only [rX6_sheet, if_pos c4, if_pos c13, if_pos c19, if_neg c26]), (by simp only [fX6_sheet, if_pos c4, if_pos c13, if_pos c19, if_neg c26])⟩
    · refine ro_bipush (v := (-2)) F dX6_sheet_22 (by decide) ?_
      exact hret _ _ _ _ _ _ (Nat.le_refl _) (Nat.le_refl _) dX6_sheet_24 rfl ⟨congrArg (fun z => some (Value.int z)) (by simp only [rX6_sheet, if_pos c4, if_pos c13, if_neg c19]), (by simp only [fX6_sheet, if_pos c4, if_pos c13, if_neg c19])⟩
set_option maxHeartbeats 4000000 in
set_option maxRecDepth 100000 in
theorem metX6_sheet_no (l : Launch) (X : Mx) (m : Mem) (s : Int32) (form : Int32) (n : Int32)  (hb : ¬ (¬ (s < nI 0) ∧ ¬ (nI 3 < s))) : Cn l yX6_sheet (ws_ yX6_sheet cX6_sheet 5 (some .int)) 3 0 0 [.ref (mx_ad X 40), .int s, .int form, .int n] (PicM X) (KM X) (mx_A X) m (fun rv_ w_ => rv_ = some (.int (-2)) ∧ w_ = m) := by
  refine cn_i (own := RX6) rfl (Nat.le_of_ble_eq_true rfl) rfl (fun g hgl hA F hret => ?_)
  refine Wd.eql (lv' := [(0, .ref (mx_ad X 40)), (1, .int s), (2, .int form), (3, .int n)]) rfl ?_
  refine ro_iload_n F dX6_sheet_0 1 rfl ?_
  refine mo_cS (rest := []) F hA (metX6_isSheet (gx_l g) X m s ) cwX6_162 hdX6_isSheet rfl (Nat.le_of_ble_eq_true rfl) (Nat.le_of_ble_eq_true rfl) (Nat.le_refl _) (Nat.le_refl _) rfl (Nat.le_of_ble_eq_true rfl) dX6_sheet_1 ?_
  refine ro_if_eqB (tgt := 22) F dX6_sheet_4 (by decide) (fun c4 => ?_) (fun c4 => absurd c4 hb)
  refine ro_bipush (v := (-2)) F dX6_sheet_22 (by decide) ?_
  exact hret _ _ _ _ _ _ (Nat.le_refl _) (Nat.le_refl _) dX6_sheet_24 rfl ⟨rfl, rfl⟩
noncomputable def rX6_lose (s : Nat) (m : Mem) : Int32 := (if (m 34 s) = 0 then (rX6_meets (nI 1)) else (m 36 s))
noncomputable def fX6_lose (s : Nat) (m : Mem) : Mem := (if (m 34 s) = 0 then (fX6_meets (nI 1) m) else (m2 m 34 s (nI 0)))
theorem fr_fX6_lose (s : Nat) (m : Mem) (f : Nat) (h34 : f ≠ 34) (h39 : f ≠ 39) : fX6_lose s m f = m f := ite_fr ((fr_fX6_meets (nI 1) m f h39).trans (rfl)) ((m2_ff _ _ h34).trans (rfl))
set_option maxHeartbeats 4000000 in
set_option maxRecDepth 100000 in
theorem metX6_lose (l : Launch) (X : Mx) (m : Mem) (s : Nat)  (hs : s < 4) : Cn l yX6_lose (ws_ yX6_lose cX6_lose 2 (some .int)) 3 0 0 [.ref (mx_ad X 40), .int (nI s)] (PicM X) (KM X) (mx_A X) m (fun rv_ w_ => rv_ = some (.int (rX6_lose s m)) ∧ w_ = (fX6_lose s m)) := by
  refine cn_i (own := RX6) rfl (Nat.le_of_ble_eq_true rfl) rfl (fun g hgl hA F hret => ?_)
  refine Wd.eql (lv' := [(0, .ref (mx_ad X 40)), (1, .int (nI s))]) rfl ?_
  refine ro_iload_n F dX6_lose_0 1 rfl ?_
  refine mo_cS (rest := []) F hA (metX6_isSheet (gx_l g) X m (nI s) ) cwX6_162 hdX6_isSheet rfl (Nat.le_of_ble_eq_true rfl) (Nat.le_of_ble_eq_true rfl) (Nat.le_refl _) (Nat.le_refl _) rfl (Nat.le_of_ble_eq_true rfl) dX6_lose_1 ?_
  refine ro_if_neB (tgt := 10) F dX6_lose_4 (by decide) (fun c4 => ?_) (fun c4 => absurd (in_ok (by omega) (by omega) (by decide)) c4)
  refine ro_aload_n F dX6_lose_10 0 rfl ?_
  refine mo_gr F 34 (Nat.le_of_ble_eq_true rfl) (by decide) lkX6_80 rfl dX6_lose_11 ?_
  refine ro_iload_n F dX6_lose_14 1 rfl ?_
  refine mo_ldZ F 34 4 rfl (by decide) (by decide) rfl (by omega) dX6_lose_15 rfl ?_
  refine ro_if_ne (tgt := 25) F dX6_lose_16 (by decide) (fun c16 => ?_) (fun c16 => ?_)
  · refine ro_aload_n F dX6_lose_25 0 rfl ?_
    refine mo_gr F 34 (Nat.le_of_ble_eq_true rfl) (by decide) lkX6_80 rfl dX6_lose_26 ?_
    refine ro_iload_n F dX6_lose_29 1 rfl ?_
    refine ro_iconst (v := (nI 0)) F dX6_lose_30 (by decide) ?_
    refine mo_stZ F hA 34 4 rfl (by decide) (by decide) rfl (by omega) (by decide) dX6_lose_31 ?_
    refine ro_aload_n F dX6_lose_32 0 rfl ?_
    refine mo_gr F 36 (Nat.le_of_ble_eq_true rfl) (by decide) lkX6_86 rfl dX6_lose_33 ?_
    refine ro_iload_n F dX6_lose_36 1 rfl ?_
    refine mo_ldN F 36 4 rfl (by decide) (by decide) rfl (by omega) dX6_lose_37 (m2_f _ _ (by decide)) ?_
    exact hret _ _ _ _ _ _ (Nat.le_refl _) (Nat.le_refl _) dX6_lose_38 rfl ⟨congrArg (fun z => some (Value.int z)) (by simp only [rX6_lose, if_pos c4, if_neg c16]), (by simp only [fX6_lose, if_pos c4, if_neg c16])⟩
  · refine ro_aload_n F dX6_lose_19 0 rfl ?_
    refine ro_iconst (v := (nI 1)) F dX6_lose_20 (by decide) ?_
    refine mo_cV (rest := []) F hA (metX6_meets (gx_l g) X m (nI 1) ) cwX6_165 hdX6_meets rfl (Nat.le_of_ble_eq_true rfl) (Nat.le_of_ble_eq_true rfl) (Nat.le_refl _) (Nat.le_refl _) rfl (Nat.le_of_ble_eq_true rfl) dX6_lose_21 ?_
    exact hret _ _ _ _ _ _ (Nat.le_refl _) (Nat.le_refl _) dX6_lose_24 rfl ⟨congrArg (fun z => some (Value.int z)) (by simp only [rX6_lose, if_pos c4, if_pos c16]), (by simp only [fX6_lose, if_pos c4, if_pos c16])⟩
set_option maxHeartbeats 4000000 in
set_option maxRecDepth 100000 in
theorem metX6_lose_no (l : Launch) (X : Mx) (m : Mem) (s : Int32)  (hb : ¬ (¬ (s < nI 0) ∧ ¬ (nI 3 < s))) : Cn l yX6_lose (ws_ yX6_lose cX6_lose 2 (some .int)) 3 0 0 [.ref (mx_ad X 40), .int s] (PicM X) (KM X) (mx_A X) m (fun rv_ w_ => rv_ = some (.int (-2)) ∧ w_ = m) := by
  refine cn_i (own := RX6) rfl (Nat.le_of_ble_eq_true rfl) rfl (fun g hgl hA F hret => ?_)
  refine Wd.eql (lv' := [(0, .ref (mx_ad X 40)), (1, .int s)]) rfl ?_
  refine ro_iload_n F dX6_lose_0 1 rfl ?_
  refine mo_cS (rest := []) F hA (metX6_isSheet (gx_l g) X m s ) cwX6_162 hdX6_isSheet rfl (Nat.le_of_ble_eq_true rfl) (Nat.le_of_ble_eq_true rfl) (Nat.le_refl _) (Nat.le_refl _) rfl (Nat.le_of_ble_eq_true rfl) dX6_lose_1 ?_
  refine ro_if_neB (tgt := 10) F dX6_lose_4 (by decide) (fun c4 => absurd c4 hb) (fun c4 => ?_)
  refine ro_bipush (v := (-2)) F dX6_lose_7 (by decide) ?_
  exact hret _ _ _ _ _ _ (Nat.le_refl _) (Nat.le_refl _) dX6_lose_9 rfl ⟨rfl, rfl⟩
noncomputable def rX6_lacks (s : Nat) (form : Int32) (i : Int32) (sz : Nat → Nat) (m : Mem) : Nat := (if (m 34 s) = 0 then 1 else (if (m 35 s) = form then (if ¬ (i < (nI 0)) ∧ (¬ (((nI (sz s)) - (nI 1)) < i)) then 0 else 2) else 3))
set_option maxHeartbeats 4000000 in
set_option maxRecDepth 100000 in
theorem metX6_lacks (l : Launch) (X : Mx) (m : Mem) (s : Nat) (form : Int32) (i : Int32) (sz : Nat → Nat) (hsz : ∀ j, j < 4 → m 36 j = nI (sz j)) (lsz : ∀ j, j < 4 → sz j < 61) (hs : s < 4) : Cn l yX6_lacks (ws_ yX6_lacks cX6_lacks 4 (some .int)) 2 0 0 [.ref (mx_ad X 40), .int (nI s), .int form, .int i] (PicM X) (KM X) (mx_A X) m (fun rv_ w_ => rv_ = some (.int (nI (rX6_lacks s form i sz m))) ∧ w_ = m) := by
  refine cn_i (own := RX6) rfl (Nat.le_of_ble_eq_true rfl) rfl (fun g hgl hA F hret => ?_)
  refine Wd.eql (lv' := [(0, .ref (mx_ad X 40)), (1, .int (nI s)), (2, .int form), (3, .int i)]) rfl ?_
  refine ro_aload_n F dX6_lacks_0 0 rfl ?_
  refine mo_gr F 34 (Nat.le_of_ble_eq_true rfl) (by decide) lkX6_80 rfl dX6_lacks_1 ?_
  refine ro_iload_n F dX6_lacks_4 1 rfl ?_
  refine mo_ldZ F 34 4 rfl (by decide) (by decide) rfl (by omega) dX6_lacks_5 rfl ?_
  have J48_6 : Wd (PicM X) g 4 m 0 0 48 [] [.int (nI (if (m 34 s) = 0 then 1 else (if (m 35 s) = form then (if ¬ (i < (nI 0)) ∧ (¬ (((nI (sz s)) - (nI 1)) < i)) then 0 else 2) else 3)))] := by
    exact hret _ _ _ _ _ _ (Nat.le_refl _) (Nat.le_refl _) dX6_lacks_48 rfl ⟨congrArg (fun z => some (Value.int z)) (rfl), rfl⟩
  refine ro_if_ne (tgt := 13) F dX6_lacks_6 (by decide) (fun c6 => ?_) (fun c6 => ?_)
  · refine ro_aload_n F dX6_lacks_13 0 rfl ?_
    refine mo_gr F 35 (Nat.le_of_ble_eq_true rfl) (by decide) lkX6_83 rfl dX6_lacks_14 ?_
    refine ro_iload_n F dX6_lacks_17 1 rfl ?_
    refine mo_ldN F 35 4 rfl (by decide) (by decide) rfl (by omega) dX6_lacks_18 rfl ?_
    refine ro_iload_n F dX6_lacks_19 2 rfl ?_
    refine ro_icmp_eq (tgt := 27) F dX6_lacks_20 (by decide) (fun c20 => ?_) (fun c20 => ?_)
    · refine ro_iload_n F dX6_lacks_27 3 rfl ?_
      refine ro_iconst (v := (nI 0)) F dX6_lacks_28 (by decide) ?_
      refine ro_aload_n F dX6_lacks_29 0 rfl ?_
      refine mo_gr F 36 (Nat.le_of_ble_eq_true rfl) (by decide) lkX6_86 rfl dX6_lacks_30 ?_
      refine ro_iload_n F dX6_lacks_33 1 rfl ?_
      have hz := lsz s (by omega)
      refine mo_ldN F 36 4 rfl (by decide) (by decide) rfl (by omega) dX6_lacks_34 (hsz s (by omega)) ?_
      refine ro_iconst (v := (nI 1)) F dX6_lacks_35 (by decide) ?_
      refine ro_isub F dX6_lacks_36 ?_
      refine mo_cS (rest := []) F hA (metX6_in (gx_l g) X m i (nI 0) ((nI (sz s)) - (nI 1)) ) cwX6_104 hdX6_in rfl (Nat.le_of_ble_eq_true rfl) (Nat.le_of_ble_eq_true rfl) (Nat.le_refl _) (Nat.le_refl _) rfl (Nat.le_of_ble_eq_true rfl) dX6_lacks_37 ?_
      refine ro_if_eqB (tgt := 47) F dX6_lacks_40 (by decide) (fun c40 => ?_) (fun c40 => ?_)
      · refine ro_iconst (v := (nI 2)) F dX6_lacks_47 (by decide) ?_
        exact Wd.sub (lv' := []) [] rfl <| Wd.to J48_6 rfl rfl (congrArg (fun z => ([Value.int z] : List Value)) (congrArg nI (by simp only [if_neg c6, if_pos c20, if_neg c40])))
      · refine ro_iconst (v := (nI 0)) F dX6_lacks_43 (by decide) ?_
        refine ro_goto (tgt := 48) F dX6_lacks_44 (by decide) ?_
        exact Wd.sub (lv' := []) [] rfl <| Wd.to J48_6 rfl rfl (congrArg (fun z => ([Value.int z] : List Value)) (congrArg nI (by simp only [if_neg c6, if_pos c20, if_pos c40])))
    · refine ro_iconst (v := (nI 3)) F dX6_lacks_23 (by decide) ?_
      refine ro_goto (tgt := 48) F dX6_lacks_24 (by decide) ?_
      exact Wd.sub (lv' := []) [] rfl <| Wd.to J48_6 rfl rfl (congrArg (fun z => ([Value.int z] : List Value)) (congrArg nI (by simp only [if_neg c6, if_neg c20])))
  · refine ro_iconst (v := (nI 1)) F dX6_lacks_9 (by decide) ?_
    refine ro_goto (tgt := 48) F dX6_lacks_10 (by decide) ?_
    exact Wd.sub (lv' := []) [] rfl <| Wd.to J48_6 rfl rfl (congrArg (fun z => ([Value.int z] : List Value)) (congrArg nI (by simp only [if_pos c6])))
noncomputable def fX6_keep (s : Nat) (i : Nat) (v : Int32) (m : Mem) : Mem := (m2 m 37 ((60 * s) + i) (if (m 35 s) = 0 then (v.toInt8.toInt32) else (if (m 35 s) = (nI 1) then (v.toInt16.toInt32) else v)))
theorem fr_fX6_keep (s : Nat) (i : Nat) (v : Int32) (m : Mem) (f : Nat) (h37 : f ≠ 37) : fX6_keep s i v m f = m f := (m2_ff _ _ h37).trans (rfl)
set_option maxHeartbeats 4000000 in
set_option maxRecDepth 100000 in
theorem metX6_keep (l : Launch) (X : Mx) (m : Mem) (s : Nat) (i : Nat) (v : Int32)  (hs : s < 4) (hi : i < 60) : Cn l yX6_keep (ws_ yX6_keep cX6_keep 4 none) 1 0 0 [.ref (mx_ad X 40), .int (nI s), .int (nI i), .int v] (PicM X) (KM X) (mx_A X) m (fun rv_ w_ => rv_ = none ∧ w_ = (fX6_keep s i v m)) := by
  refine cn_v (own := RX6) rfl (Nat.le_of_ble_eq_true rfl) rfl (fun g hgl hA F hret => ?_)
  refine Wd.eql (lv' := [(0, .ref (mx_ad X 40)), (1, .int (nI s)), (2, .int (nI i)), (3, .int v)]) rfl ?_
  refine ro_aload_n F dX6_keep_0 0 rfl ?_
  refine mo_gr F 37 (Nat.le_of_ble_eq_true rfl) (by decide) lkX6_89 rfl dX6_keep_1 ?_
  refine ro_bipush (v := (nI 60)) F dX6_keep_4 (by decide) ?_
  refine ro_iload_n F dX6_keep_6 1 rfl ?_
  refine ro_imulN F dX6_keep_7 ?_
  refine ro_iload_n F dX6_keep_8 2 rfl ?_
  refine ro_iaddN F dX6_keep_9 ?_
  refine ro_aload_n F dX6_keep_10 0 rfl ?_
  refine mo_gr F 35 (Nat.le_of_ble_eq_true rfl) (by decide) lkX6_83 rfl dX6_keep_11 ?_
  refine ro_iload_n F dX6_keep_14 1 rfl ?_
  refine mo_ldN F 35 4 rfl (by decide) (by decide) rfl (by omega) dX6_keep_15 rfl ?_
  have J40_16 : Wd (PicM X) g 4 m 0 0 40 [] [.int (if (m 35 s) = 0 then (v.toInt8.toInt32) else (if (m 35 s) = (nI 1) then (v.toInt16.toInt32) else v)), .int (nI ((60 * s) + i)), .ref (mx_ad X 37)] := by
    refine mo_stN F hA 37 240 rfl (by decide) (by decide) rfl (by omega) dX6_keep_40 ?_
    exact hret _ _ _ _ _ (Nat.le_refl _) (Nat.le_refl _) dX6_keep_41 ⟨rfl, rfl⟩
  refine ro_if_ne (tgt := 24) F dX6_keep_16 (by decide) (fun c16 => ?_) (fun c16 => ?_)
  · refine ro_aload_n F dX6_keep_24 0 rfl ?_
    refine mo_gr F 35 (Nat.le_of_ble_eq_true rfl) (by decide) lkX6_83 rfl dX6_keep_25 ?_
    refine ro_iload_n F dX6_keep_28 1 rfl ?_
    refine mo_ldN F 35 4 rfl (by decide) (by decide) rfl (by omega) dX6_keep_29 rfl ?_
    refine ro_iconst (v := (nI 1)) F dX6_keep_30 (by decide) ?_
    refine ro_icmp_ne (tgt := 39) F dX6_keep_31 (by decide) (fun c31 => ?_) (fun c31 => ?_)
    · refine ro_iload_n F dX6_keep_39 3 rfl ?_
      exact Wd.sub (lv' := []) [] rfl <| Wd.to J40_16 rfl rfl (congrArg (fun z => ([Value.int z, .int (nI ((60 * s) + i)), .ref (mx_ad X 37)] : List Value)) (by simp only [if_neg c16, if_neg c31]))
    · refine ro_iload_n F dX6_keep_34 3 rfl ?_
      refine ro_i2s F dX6_keep_35 ?_
      refine ro_goto (tgt := 40) F dX6_keep_36 (by decide) ?_
      exact Wd.sub (lv' := []) [] rfl <| Wd.to J40_16 rfl rfl (congrArg (fun z => ([Value.int z, .int (nI ((60 * s) + i)), .ref (mx_ad X 37)] : List Value)) (by simp only [if_neg c16, if_pos c31]))
  · refine ro_iload_n F dX6_keep_19 3 rfl ?_
    refine ro_i2b F dX6_keep_20 ?_
    refine ro_goto (tgt := 40) F dX6_keep_21 (by decide) ?_
    exact Wd.sub (lv' := []) [] rfl <| Wd.to J40_16 rfl rfl (congrArg (fun z => ([Value.int z, .int (nI ((60 * s) + i)), .ref (mx_ad X 37)] : List Value)) (by simp only [if_pos c16]))
theorem le_lacks (s : Nat) (form i : Int32) (sz : Nat → Nat) (m : Mem) : rX6_lacks s form i sz m ≤ 3 := by
  unfold rX6_lacks
  repeat' split
  all_goals decide
theorem lacks_in {s : Nat} {form i : Int32} {sz : Nat → Nat} {m : Mem} (h : rX6_lacks s form i sz m = 0) (hz : sz s ≤ 60) : ∃ j, j < 60 ∧ i = nI j := by
  unfold rX6_lacks at h
  by_cases c1 : m 34 s = 0
  · rw [if_pos c1] at h; exact absurd h (by decide)
  rw [if_neg c1] at h
  by_cases c2 : m 35 s = form
  · rw [if_pos c2] at h
    by_cases c3 : ¬ (i < nI 0) ∧ ¬ (nI (sz s) - nI 1 < i)
    · obtain ⟨j, hj, e⟩ := nI_of (show ¬ i < 0 from c3.1)
      subst e
      refine ⟨j, ?_, rfl⟩
      rcases Nat.eq_zero_or_pos (sz s) with z | z
      · exfalso
        apply c3.2
        rw [z]
        have h1 : nI 0 - nI 1 = -1 := by decide
        rw [h1, Int32.lt_iff_toInt_lt, nI_toInt hj]
        have h2 : (-1 : Int32).toInt = -1 := by decide
        omega
      · have h1 := c3.2
        rw [pk_sub z] at h1
        rcases Nat.lt_or_ge j 60 with q | q
        · exact q
        · exact absurd (nI_lt (show sz s - 1 < j by omega) hj) h1
    · rw [if_neg c3] at h; exact absurd h (by decide)
  · rw [if_neg c2] at h; exact absurd h (by decide)
noncomputable def rX6_put (s : Nat) (form : Int32) (i : Nat) (sz : Nat → Nat) (m : Mem) : Int32 := (if ¬ (form < (nI 0)) ∧ (¬ ((nI 2) < form)) then (if (rX6_lacks s form (nI i) sz m) = 0 then (nI 1) else (rX6_meets (nI (rX6_lacks s form (nI i) sz m)))) else (-2))
noncomputable def fX6_put (s : Nat) (form : Int32) (i : Nat) (v : Int32) (sz : Nat → Nat) (m : Mem) : Mem := (if ¬ (form < (nI 0)) ∧ (¬ ((nI 2) < form)) then (if (rX6_lacks s form (nI i) sz m) = 0 then (fX6_keep s i v m) else (fX6_meets (nI (rX6_lacks s form (nI i) sz m)) m)) else m)
theorem fr_fX6_put (s : Nat) (form : Int32) (i : Nat) (v : Int32) (sz : Nat → Nat) (m : Mem) (f : Nat) (h37 : f ≠ 37) (h39 : f ≠ 39) : fX6_put s form i v sz m f = m f := ite_fr (ite_fr ((fr_fX6_keep s i v m f h37).trans (rfl)) ((fr_fX6_meets (nI (rX6_lacks s form (nI i) sz m)) m f h39).trans (rfl))) (rfl)
set_option maxHeartbeats 4000000 in
set_option maxRecDepth 100000 in
theorem metX6_put (l : Launch) (X : Mx) (m : Mem) (s : Nat) (form : Int32) (i : Nat) (v : Int32) (sz : Nat → Nat) (hsz : ∀ j, j < 4 → m 36 j = nI (sz j)) (lsz : ∀ j, j < 4 → sz j < 61) (hs : s < 4) (hi : i < 60) : Cn l yX6_put (ws_ yX6_put cX6_put 6 (some .int)) 3 0 0 [.ref (mx_ad X 40), .int (nI s), .int form, .int (nI i), .int v] (PicM X) (KM X) (mx_A X) m (fun rv_ w_ => rv_ = some (.int (rX6_put s form i sz m)) ∧ w_ = (fX6_put s form i v sz m)) := by
  refine cn_i (own := RX6) rfl (Nat.le_of_ble_eq_true rfl) rfl (fun g hgl hA F hret => ?_)
  refine Wd.eql (lv' := [(0, .ref (mx_ad X 40)), (1, .int (nI s)), (2, .int form), (3, .int (nI i)), (4, .int v)]) rfl ?_
  refine ro_iload_n F dX6_put_0 1 rfl ?_
  refine mo_cS (rest := []) F hA (metX6_isSheet (gx_l g) X m (nI s) ) cwX6_162 hdX6_isSheet rfl (Nat.le_of_ble_eq_true rfl) (Nat.le_of_ble_eq_true rfl) (Nat.le_refl _) (Nat.le_refl _) rfl (Nat.le_of_ble_eq_true rfl) dX6_put_1 ?_
  refine ro_if_eqB (tgt := 16) F dX6_put_4 (by decide) (fun c4 => absurd (in_ok (by omega) (by omega) (by decide)) c4) (fun c4 => ?_)
  refine ro_iload_n F dX6_put_7 2 rfl ?_
  refine ro_iconst (v := (nI 0)) F dX6_put_8 (by decide) ?_
  refine ro_iconst (v := (nI 2)) F dX6_put_9 (by decide) ?_
  refine mo_cS (rest := []) F hA (metX6_in (gx_l g) X m form (nI 0) (nI 2) ) cwX6_104 hdX6_in rfl (Nat.le_of_ble_eq_true rfl) (Nat.le_of_ble_eq_true rfl) (Nat.le_refl _) (Nat.le_refl _) rfl (Nat.le_of_ble_eq_true rfl) dX6_put_10 ?_
  refine ro_if_neB (tgt := 19) F dX6_put_13 (by decide) (fun c13 => ?_) (fun c13 => ?_)
  · refine ro_aload_n F dX6_put_19 0 rfl ?_
    refine ro_iload_n F dX6_put_20 1 rfl ?_
    refine ro_iload_n F dX6_put_21 2 rfl ?_
    refine ro_iload_n F dX6_put_22 3 rfl ?_
    refine mo_cV (rest := []) F hA (metX6_lacks (gx_l g) X m s form (nI i) sz hsz lsz (by omega)) cwX6_286 hdX6_lacks rfl (Nat.le_of_ble_eq_true rfl) (Nat.le_of_ble_eq_true rfl) (Nat.le_refl _) (Nat.le_refl _) rfl (Nat.le_of_ble_eq_true rfl) dX6_put_23 ?_
    refine ro_istore (lv' := [(0, .ref (mx_ad X 40)), (1, .int (nI s)), (2, .int form), (3, .int (nI i)), (4, .int v), (5, .int (nI (rX6_lacks s form (nI i) sz m)))]) F dX6_put_26 (Nat.le_of_ble_eq_true rfl) [1, 2, 3, 4, 5, 0] rfl ?_
    refine ro_iload F dX6_put_28 5 rfl ?_
    have hl3 := le_lacks s form (nI i) sz m
    refine ro_if_leN (tgt := 40) F dX6_put_30 (by decide) (by omega) (fun c30 => ?_) (fun c30 => ?_)
    · refine ro_aload_n F dX6_put_40 0 rfl ?_
      refine ro_iload_n F dX6_put_41 1 rfl ?_
      refine ro_iload_n F dX6_put_42 3 rfl ?_
      refine ro_iload F dX6_put_43 4 rfl ?_
      refine mo_cV (rest := []) F hA (metX6_keep (gx_l g) X m s i v (by omega) (by omega)) cwX6_289 hdX6_keep rfl (Nat.le_of_ble_eq_true rfl) (Nat.le_of_ble_eq_true rfl) (Nat.le_refl _) (Nat.le_refl _) rfl (Nat.le_of_ble_eq_true rfl) dX6_put_45 ?_
      refine ro_iconst (v := (nI 1)) F dX6_put_48 (by decide) ?_
      exact hret _ _ _ _ _ _ (Nat.le_refl _) (Nat.le_refl _) dX6_put_49 rfl ⟨congrArg (fun z => some (Value.int z)) (by simp only [rX6_put, if_pos c4, if_pos c13, if_pos c30]), (by simp only [fX6_put, if_pos c4, if_pos c13, if_pos c30])⟩
    · refine ro_aload_n F dX6_put_33 0 rfl ?_
      refine ro_iload F dX6_put_34 5 rfl ?_
      refine mo_cV (rest := []) F hA (metX6_meets (gx_l g) X m (nI (rX6_lacks s form (nI i) sz m)) ) cwX6_165 hdX6_meets rfl (Nat.le_of_ble_eq_true rfl) (Nat.le_of_ble_eq_true rfl) (Nat.le_refl _) (Nat.le_refl _) rfl (Nat.le_of_ble_eq_true rfl) dX6_put_36 ?_
      exact hret _ _ _ _ _ _ (Nat.le_refl _) (Nat.le_refl _) dX6_put_39 rfl ⟨congrArg (fun z => some (Value.int z)) (by simp only [rX6_put, if_pos c4, if_pos c13, if_neg c30]), (by simp only [fX6_put, if_pos c4, if_pos c13, if_neg c30])⟩
  · refine ro_bipush (v := (-2)) F dX6_put_16 (by decide) ?_
    exact hret _ _ _ _ _ _ (Nat.le_refl _) (Nat.le_refl _) dX6_put_18 rfl ⟨congrArg (fun z => some (Value.int z)) (by simp only [rX6_put, if_pos c4, if_neg c13]), (by simp only [fX6_put, if_pos c4, if_neg c13])⟩
noncomputable def rX6_put_out (s : Nat) (form : Int32) (i : Int32) (sz : Nat → Nat) (m : Mem) : Int32 := (if ¬ (form < (nI 0)) ∧ (¬ ((nI 2) < form)) then (rX6_meets (nI (rX6_lacks s form i sz m))) else (-2))
noncomputable def fX6_put_out (s : Nat) (form : Int32) (i : Int32) (sz : Nat → Nat) (m : Mem) : Mem := (if ¬ (form < (nI 0)) ∧ (¬ ((nI 2) < form)) then (fX6_meets (nI (rX6_lacks s form i sz m)) m) else m)
theorem fr_fX6_put_out (s : Nat) (form : Int32) (i : Int32) (sz : Nat → Nat) (m : Mem) (f : Nat) (h39 : f ≠ 39) : fX6_put_out s form i sz m f = m f := ite_fr ((fr_fX6_meets (nI (rX6_lacks s form i sz m)) m f h39).trans (rfl)) (rfl)
set_option maxHeartbeats 4000000 in
set_option maxRecDepth 100000 in
theorem metX6_put_out (l : Launch) (X : Mx) (m : Mem) (s : Nat) (form : Int32) (i : Int32) (v : Int32) (sz : Nat → Nat) (hsz : ∀ j, j < 4 → m 36 j = nI (sz j)) (lsz : ∀ j, j < 4 → sz j < 61) (hs : s < 4) (hb : ¬ ∃ j, j < 60 ∧ i = nI j) : Cn l yX6_put (ws_ yX6_put cX6_put 6 (some .int)) 3 0 0 [.ref (mx_ad X 40), .int (nI s), .int form, .int i, .int v] (PicM X) (KM X) (mx_A X) m (fun rv_ w_ => rv_ = some (.int (rX6_put_out s form i sz m)) ∧ w_ = (fX6_put_out s form i sz m)) := by
  refine cn_i (own := RX6) rfl (Nat.le_of_ble_eq_true rfl) rfl (fun g hgl hA F hret => ?_)
  refine Wd.eql (lv' := [(0, .ref (mx_ad X 40)), (1, .int (nI s)), (2, .int form), (3, .int i), (4, .int v)]) rfl ?_
  refine ro_iload_n F dX6_put_0 1 rfl ?_
  refine mo_cS (rest := []) F hA (metX6_isSheet (gx_l g) X m (nI s) ) cwX6_162 hdX6_isSheet rfl (Nat.le_of_ble_eq_true rfl) (Nat.le_of_ble_eq_true rfl) (Nat.le_refl _) (Nat.le_refl _) rfl (Nat.le_of_ble_eq_true rfl) dX6_put_1 ?_
  refine ro_if_eqB (tgt := 16) F dX6_put_4 (by decide) (fun c4 => absurd (in_ok (by omega) (by omega) (by decide)) c4) (fun c4 => ?_)
  refine ro_iload_n F dX6_put_7 2 rfl ?_
  refine ro_iconst (v := (nI 0)) F dX6_put_8 (by decide) ?_
  refine ro_iconst (v := (nI 2)) F dX6_put_9 (by decide) ?_
  refine mo_cS (rest := []) F hA (metX6_in (gx_l g) X m form (nI 0) (nI 2) ) cwX6_104 hdX6_in rfl (Nat.le_of_ble_eq_true rfl) (Nat.le_of_ble_eq_true rfl) (Nat.le_refl _) (Nat.le_refl _) rfl (Nat.le_of_ble_eq_true rfl) dX6_put_10 ?_
  refine ro_if_neB (tgt := 19) F dX6_put_13 (by decide) (fun c13 => ?_) (fun c13 => ?_)
  · refine ro_aload_n F dX6_put_19 0 rfl ?_
    refine ro_iload_n F dX6_put_20 1 rfl ?_
    refine ro_iload_n F dX6_put_21 2 rfl ?_
    refine ro_iload_n F dX6_put_22 3 rfl ?_
    refine mo_cV (rest := []) F hA (metX6_lacks (gx_l g) X m s form i sz hsz lsz (by omega)) cwX6_286 hdX6_lacks rfl (Nat.le_of_ble_eq_true rfl) (Nat.le_of_ble_eq_true rfl) (Nat.le_refl _) (Nat.le_refl _) rfl (Nat.le_of_ble_eq_true rfl) dX6_put_23 ?_
    refine ro_istore (lv' := [(0, .ref (mx_ad X 40)), (1, .int (nI s)), (2, .int form), (3, .int i), (4, .int v), (5, .int (nI (rX6_lacks s form i sz m)))]) F dX6_put_26 (Nat.le_of_ble_eq_true rfl) [1, 2, 3, 4, 5, 0] rfl ?_
    refine ro_iload F dX6_put_28 5 rfl ?_
    have hl3 := le_lacks s form i sz m
    refine ro_if_leN (tgt := 40) F dX6_put_30 (by decide) (by omega) (fun c30 => absurd (lacks_in c30 (by have := lsz s hs; omega)) hb) (fun c30 => ?_)
    refine ro_aload_n F dX6_put_33 0 rfl ?_
    refine ro_iload F dX6_put_34 5 rfl ?_
    refine mo_cV (rest := []) F hA (metX6_meets (gx_l g) X m (nI (rX6_lacks s form i sz m)) ) cwX6_165 hdX6_meets rfl (Nat.le_of_ble_eq_true rfl) (Nat.le_of_ble_eq_true rfl) (Nat.le_refl _) (Nat.le_refl _) rfl (Nat.le_of_ble_eq_true rfl) dX6_put_36 ?_
    exact hret _ _ _ _ _ _ (Nat.le_refl _) (Nat.le_refl _) dX6_put_39 rfl ⟨congrArg (fun z => some (Value.int z)) (by simp only [rX6_put_out, if_pos c4, if_pos c13, if_neg c30]), (by simp only [fX6_put_out, if_pos c4, if_pos c13, if_neg c30])⟩
  · refine ro_bipush (v := (-2)) F dX6_put_16 (by decide) ?_
    exact hret _ _ _ _ _ _ (Nat.le_refl _) (Nat.le_refl _) dX6_put_18 rfl ⟨congrArg (fun z => some (Value.int z)) (by simp only [rX6_put_out, if_pos c4, if_neg c13]), (by simp only [fX6_put_out, if_pos c4, if_neg c13])⟩
set_option maxHeartbeats 4000000 in
set_option maxRecDepth 100000 in
theorem metX6_put_no (l : Launch) (X : Mx) (m : Mem) (s : Int32) (form : Int32) (i : Int32) (v : Int32)  (hb : ¬ (¬ (s < nI 0) ∧ ¬ (nI 3 < s))) : Cn l yX6_put (ws_ yX6_put cX6_put 6 (some .int)) 3 0 0 [.ref (mx_ad X 40), .int s, .int form, .int i, .int v] (PicM X) (KM X) (mx_A X) m (fun rv_ w_ => rv_ = some (.int (-2)) ∧ w_ = m) := by
  refine cn_i (own := RX6) rfl (Nat.le_of_ble_eq_true rfl) rfl (fun g hgl hA F hret => ?_)
  refine Wd.eql (lv' := [(0, .ref (mx_ad X 40)), (1, .int s), (2, .int form), (3, .int i), (4, .int v)]) rfl ?_
  refine ro_iload_n F dX6_put_0 1 rfl ?_
  refine mo_cS (rest := []) F hA (metX6_isSheet (gx_l g) X m s ) cwX6_162 hdX6_isSheet rfl (Nat.le_of_ble_eq_true rfl) (Nat.le_of_ble_eq_true rfl) (Nat.le_refl _) (Nat.le_refl _) rfl (Nat.le_of_ble_eq_true rfl) dX6_put_1 ?_
  refine ro_if_eqB (tgt := 16) F dX6_put_4 (by decide) (fun c4 => ?_) (fun c4 => absurd c4 hb)
  refine ro_bipush (v := (-2)) F dX6_put_16 (by decide) ?_
  exact hret _ _ _ _ _ _ (Nat.le_refl _) (Nat.le_refl _) dX6_put_18 rfl ⟨rfl, rfl⟩
noncomputable def rX6_get (s : Nat) (form : Int32) (i : Nat) (sz : Nat → Nat) (m : Mem) : Int32 := (if ¬ (form < (nI 0)) ∧ (¬ ((nI 2) < form)) then (if (rX6_lacks s form (nI i) sz m) = 0 then (m 37 ((60 * s) + i)) else (-2147483648)) else (-2147483648))
noncomputable def fX6_get (s : Nat) (form : Int32) (i : Nat) (sz : Nat → Nat) (m : Mem) : Mem := (if ¬ (form < (nI 0)) ∧ (¬ ((nI 2) < form)) then (if (rX6_lacks s form (nI i) sz m) = 0 then m else (m2 m 39 0 (nI (rX6_lacks s form (nI i) sz m)))) else m)
theorem fr_fX6_get (s : Nat) (form : Int32) (i : Nat) (sz : Nat → Nat) (m : Mem) (f : Nat) (h39 : f ≠ 39) : fX6_get s form i sz m f = m f := ite_fr (ite_fr (rfl) ((m2_ff _ _ h39).trans (rfl))) (rfl)
set_option maxHeartbeats 4000000 in
set_option maxRecDepth 100000 in
theorem metX6_get (l : Launch) (X : Mx) (m : Mem) (s : Nat) (form : Int32) (i : Nat) (sz : Nat → Nat) (hsz : ∀ j, j < 4 → m 36 j = nI (sz j)) (lsz : ∀ j, j < 4 → sz j < 61) (hs : s < 4) (hi : i < 60) : Cn l yX6_get (ws_ yX6_get cX6_get 5 (some .int)) 3 0 0 [.ref (mx_ad X 40), .int (nI s), .int form, .int (nI i)] (PicM X) (KM X) (mx_A X) m (fun rv_ w_ => rv_ = some (.int (rX6_get s form i sz m)) ∧ w_ = (fX6_get s form i sz m)) := by
  refine cn_i (own := RX6) rfl (Nat.le_of_ble_eq_true rfl) rfl (fun g hgl hA F hret => ?_)
  refine Wd.eql (lv' := [(0, .ref (mx_ad X 40)), (1, .int (nI s)), (2, .int form), (3, .int (nI i))]) rfl ?_
  refine ro_iload_n F dX6_get_0 1 rfl ?_
  refine mo_cS (rest := []) F hA (metX6_isSheet (gx_l g) X m (nI s) ) cwX6_162 hdX6_isSheet rfl (Nat.le_of_ble_eq_true rfl) (Nat.le_of_ble_eq_true rfl) (Nat.le_refl _) (Nat.le_refl _) rfl (Nat.le_of_ble_eq_true rfl) dX6_get_1 ?_
  refine ro_if_eqB (tgt := 16) F dX6_get_4 (by decide) (fun c4 => absurd (in_ok (by omega) (by omega) (by decide)) c4) (fun c4 => ?_)
  refine ro_iload_n F dX6_get_7 2 rfl ?_
  refine ro_iconst (v := (nI 0)) F dX6_get_8 (by decide) ?_
  refine ro_iconst (v := (nI 2)) F dX6_get_9 (by decide) ?_
  refine mo_cS (rest := []) F hA (metX6_in (gx_l g) X m form (nI 0) (nI 2) ) cwX6_104 hdX6_in rfl (Nat.le_of_ble_eq_true rfl) (Nat.le_of_ble_eq_true rfl) (Nat.le_refl _) (Nat.le_refl _) rfl (Nat.le_of_ble_eq_true rfl) dX6_get_10 ?_
  refine ro_if_neB (tgt := 20) F dX6_get_13 (by decide) (fun c13 => ?_) (fun c13 => ?_)
  · refine ro_aload_n F dX6_get_20 0 rfl ?_
    refine ro_iload_n F dX6_get_21 1 rfl ?_
    refine ro_iload_n F dX6_get_22 2 rfl ?_
    refine ro_iload_n F dX6_get_23 3 rfl ?_
    refine mo_cV (rest := []) F hA (metX6_lacks (gx_l g) X m s form (nI i) sz hsz lsz (by omega)) cwX6_286 hdX6_lacks rfl (Nat.le_of_ble_eq_true rfl) (Nat.le_of_ble_eq_true rfl) (Nat.le_refl _) (Nat.le_refl _) rfl (Nat.le_of_ble_eq_true rfl) dX6_get_24 ?_
    refine ro_istore (lv' := [(0, .ref (mx_ad X 40)), (1, .int (nI s)), (2, .int form), (3, .int (nI i)), (4, .int (nI (rX6_lacks s form (nI i) sz m)))]) F dX6_get_27 (Nat.le_of_ble_eq_true rfl) [1, 2, 3, 4, 0] rfl ?_
    refine ro_iload F dX6_get_29 4 rfl ?_
    have hl3 := le_lacks s form (nI i) sz m
    refine ro_if_leN (tgt := 44) F dX6_get_31 (by decide) (by omega) (fun c31 => ?_) (fun c31 => ?_)
    · refine ro_aload_n F dX6_get_44 0 rfl ?_
      refine mo_gr F 37 (Nat.le_of_ble_eq_true rfl) (by decide) lkX6_89 rfl dX6_get_45 ?_
      refine ro_bipush (v := (nI 60)) F dX6_get_48 (by decide) ?_
      refine ro_iload_n F dX6_get_50 1 rfl ?_
      refine ro_imulN F dX6_get_51 ?_
      refine ro_iload_n F dX6_get_52 3 rfl ?_
      refine ro_iaddN F dX6_get_53 ?_
      refine mo_ldN F 37 240 rfl (by decide) (by decide) rfl (by omega) dX6_get_54 rfl ?_
      exact hret _ _ _ _ _ _ (Nat.le_refl _) (Nat.le_refl _) dX6_get_55 rfl ⟨congrArg (fun z => some (Value.int z)) (by simp only [rX6_get, if_pos c4, if_pos c13, if_pos c31]), (by simp only [fX6_get, if_pos c4, if_pos c13, if_pos c31])⟩
    · refine ro_aload_n F dX6_get_34 0 rfl ?_
      refine ro_iload F dX6_get_35 4 rfl ?_
      refine mo_put F hA 39 (Nat.le_of_ble_eq_true rfl) rfl rfl rfl lkX6_283 rfl dX6_get_37 ?_
      refine ro_ldcw F q1578 dX6_get_40 ?_
      exact hret _ _ _ _ _ _ (Nat.le_refl _) (Nat.le_refl _) dX6_get_43 rfl ⟨congrArg (fun z => some (Value.int z)) (by simp only [rX6_get, if_pos c4, if_pos c13, if_neg c31]), (by simp only [fX6_get, if_pos c4, if_pos c13, if_neg c31])⟩
  · refine ro_ldcw F q1578 dX6_get_16 ?_
    exact hret _ _ _ _ _ _ (Nat.le_refl _) (Nat.le_refl _) dX6_get_19 rfl ⟨congrArg (fun z => some (Value.int z)) (by simp only [rX6_get, if_pos c4, if_neg c13]), (by simp only [fX6_get, if_pos c4, if_neg c13])⟩
noncomputable def fX6_get_out (s : Nat) (form : Int32) (i : Int32) (sz : Nat → Nat) (m : Mem) : Mem := (if ¬ (form < (nI 0)) ∧ (¬ ((nI 2) < form)) then (m2 m 39 0 (nI (rX6_lacks s form i sz m))) else m)
theorem fr_fX6_get_out (s : Nat) (form : Int32) (i : Int32) (sz : Nat → Nat) (m : Mem) (f : Nat) (h39 : f ≠ 39) : fX6_get_out s form i sz m f = m f := ite_fr ((m2_ff _ _ h39).trans (rfl)) (rfl)
set_option maxHeartbeats 4000000 in
set_option maxRecDepth 100000 in
theorem metX6_get_out (l : Launch) (X : Mx) (m : Mem) (s : Nat) (form : Int32) (i : Int32) (sz : Nat → Nat) (hsz : ∀ j, j < 4 → m 36 j = nI (sz j)) (lsz : ∀ j, j < 4 → sz j < 61) (hs : s < 4) (hb : ¬ ∃ j, j < 60 ∧ i = nI j) : Cn l yX6_get (ws_ yX6_get cX6_get 5 (some .int)) 3 0 0 [.ref (mx_ad X 40), .int (nI s), .int form, .int i] (PicM X) (KM X) (mx_A X) m (fun rv_ w_ => rv_ = some (.int (-2147483648)) ∧ w_ = (fX6_get_out s form i sz m)) := by
  refine cn_i (own := RX6) rfl (Nat.le_of_ble_eq_true rfl) rfl (fun g hgl hA F hret => ?_)
  refine Wd.eql (lv' := [(0, .ref (mx_ad X 40)), (1, .int (nI s)), (2, .int form), (3, .int i)]) rfl ?_
  refine ro_iload_n F dX6_get_0 1 rfl ?_
  refine mo_cS (rest := []) F hA (metX6_isSheet (gx_l g) X m (nI s) ) cwX6_162 hdX6_isSheet rfl (Nat.le_of_ble_eq_true rfl) (Nat.le_of_ble_eq_true rfl) (Nat.le_refl _) (Nat.le_refl _) rfl (Nat.le_of_ble_eq_true rfl) dX6_get_1 ?_
  refine ro_if_eqB (tgt := 16) F dX6_get_4 (by decide) (fun c4 => absurd (in_ok (by omega) (by omega) (by decide)) c4) (fun c4 => ?_)
  refine ro_iload_n F dX6_get_7 2 rfl ?_
  refine ro_iconst (v := (nI 0)) F dX6_get_8 (by decide) ?_
  refine ro_iconst (v := (nI 2)) F dX6_get_9 (by decide) ?_
  refine mo_cS (rest := []) F hA (metX6_in (gx_l g) X m form (nI 0) (nI 2) ) cwX6_104 hdX6_in rfl (Nat.le_of_ble_eq_true rfl) (Nat.le_of_ble_eq_true rfl) (Nat.le_refl _) (Nat.le_refl _) rfl (Nat.le_of_ble_eq_true rfl) dX6_get_10 ?_
  refine ro_if_neB (tgt := 20) F dX6_get_13 (by decide) (fun c13 => ?_) (fun c13 => ?_)
  · refine ro_aload_n F dX6_get_20 0 rfl ?_
    refine ro_iload_n F dX6_get_21 1 rfl ?_
    refine ro_iload_n F dX6_get_22 2 rfl ?_
    refine ro_iload_n F dX6_get_23 3 rfl ?_
    refine mo_cV (rest := []) F hA (metX6_lacks (gx_l g) X m s form i sz hsz lsz (by omega)) cwX6_286 hdX6_lacks rfl (Nat.le_of_ble_eq_true rfl) (Nat.le_of_ble_eq_true rfl) (Nat.le_refl _) (Nat.le_refl _) rfl (Nat.le_of_ble_eq_true rfl) dX6_get_24 ?_
    refine ro_istore (lv' := [(0, .ref (mx_ad X 40)), (1, .int (nI s)), (2, .int form), (3, .int i), (4, .int (nI (rX6_lacks s form i sz m)))]) F dX6_get_27 (Nat.le_of_ble_eq_true rfl) [1, 2, 3, 4, 0] rfl ?_
    refine ro_iload F dX6_get_29 4 rfl ?_
    have hl3 := le_lacks s form i sz m
    refine ro_if_leN (tgt := 44) F dX6_get_31 (by decide) (by omega) (fun c31 => absurd (lacks_in c31 (by have := lsz s hs; omega)) hb) (fun c31 => ?_)
    refine ro_aload_n F dX6_get_34 0 rfl ?_
    refine ro_iload F dX6_get_35 4 rfl ?_
    refine mo_put F hA 39 (Nat.le_of_ble_eq_true rfl) rfl rfl rfl lkX6_283 rfl dX6_get_37 ?_
    refine ro_ldcw F q1578 dX6_get_40 ?_
    exact hret _ _ _ _ _ _ (Nat.le_refl _) (Nat.le_refl _) dX6_get_43 rfl ⟨rfl, (by simp only [fX6_get_out, if_pos c4, if_pos c13, if_neg c31])⟩
  · refine ro_ldcw F q1578 dX6_get_16 ?_
    exact hret _ _ _ _ _ _ (Nat.le_refl _) (Nat.le_refl _) dX6_get_19 rfl ⟨rfl, (by simp only [fX6_get_out, if_pos c4, if_neg c13])⟩
set_option maxHeartbeats 4000000 in
set_option maxRecDepth 100000 in
theorem metX6_get_no (l : Launch) (X : Mx) (m : Mem) (s : Int32) (form : Int32) (i : Int32)  (hb : ¬ (¬ (s < nI 0) ∧ ¬ (nI 3 < s))) : Cn l yX6_get (ws_ yX6_get cX6_get 5 (some .int)) 3 0 0 [.ref (mx_ad X 40), .int s, .int form, .int i] (PicM X) (KM X) (mx_A X) m (fun rv_ w_ => rv_ = some (.int (-2147483648)) ∧ w_ = m) := by
  refine cn_i (own := RX6) rfl (Nat.le_of_ble_eq_true rfl) rfl (fun g hgl hA F hret => ?_)
  refine Wd.eql (lv' := [(0, .ref (mx_ad X 40)), (1, .int s), (2, .int form), (3, .int i)]) rfl ?_
  refine ro_iload_n F dX6_get_0 1 rfl ?_
  refine mo_cS (rest := []) F hA (metX6_isSheet (gx_l g) X m s ) cwX6_162 hdX6_isSheet rfl (Nat.le_of_ble_eq_true rfl) (Nat.le_of_ble_eq_true rfl) (Nat.le_refl _) (Nat.le_refl _) rfl (Nat.le_of_ble_eq_true rfl) dX6_get_1 ?_
  refine ro_if_eqB (tgt := 16) F dX6_get_4 (by decide) (fun c4 => ?_) (fun c4 => absurd c4 hb)
  refine ro_ldcw F q1578 dX6_get_16 ?_
  exact hret _ _ _ _ _ _ (Nat.le_refl _) (Nat.le_refl _) dX6_get_19 rfl ⟨rfl, rfl⟩
noncomputable def lX6_copy_120 (s : Nat) (i : Nat) (m : Mem) (i120 : Nat) (b120 : Mem) : Mem := (m2 b120 38 i120 (m 37 (((60 * s) + i) + i120)))
theorem fr_lX6_copy_120 (s : Nat) (i : Nat) (m : Mem) (i120 : Nat) (b120 : Mem) (f : Nat) (h38 : f ≠ 38) : lX6_copy_120 s i m i120 b120 f = b120 f := (m2_ff _ _ h38).trans (rfl)
theorem fi_lX6_copy_120 (s : Nat) (i : Nat) (m : Mem) (b120 : Mem) (n_ : Nat) (f : Nat) (h38 : f ≠ 38) : (it (lX6_copy_120 s i m) b120 n_) f = b120 f := it_fr (fun i_ b_ => fr_lX6_copy_120 s i m i_ b_ f h38) n_
noncomputable def lX6_copy_157 (s : Nat) (i : Nat) (t : Nat) (j : Nat) (n : Nat) (m : Mem) (i157 : Nat) (b157 : Mem) : Mem := (m2 b157 37 (((60 * t) + j) + i157) ((it (lX6_copy_120 s i m) m n) 38 i157))
theorem fr_lX6_copy_157 (s : Nat) (i : Nat) (t : Nat) (j : Nat) (n : Nat) (m : Mem) (i157 : Nat) (b157 : Mem) (f : Nat) (h37 : f ≠ 37) : lX6_copy_157 s i t j n m i157 b157 f = b157 f := (m2_ff _ _ h37).trans (rfl)
theorem fi_lX6_copy_157 (s : Nat) (i : Nat) (t : Nat) (j : Nat) (n : Nat) (m : Mem) (b157 : Mem) (n_ : Nat) (f : Nat) (h37 : f ≠ 37) : (it (lX6_copy_157 s i t j n m) b157 n_) f = b157 f := it_fr (fun i_ b_ => fr_lX6_copy_157 s i t j n m i_ b_ f h37) n_
noncomputable def rX6_copy (s : Nat) (t : Nat) (m : Mem) : Int32 := (if (m 34 s) = 0 then (rX6_meets (nI 1)) else (if (m 34 t) = 0 then (rX6_meets (nI 1)) else (if (m 35 s) = (m 35 t) then (nI 1) else (rX6_meets (nI 4)))))
noncomputable def fX6_copy (s : Nat) (i : Nat) (t : Nat) (j : Nat) (n : Nat) (m : Mem) : Mem := (if (m 34 s) = 0 then (fX6_meets (nI 1) m) else (if (m 34 t) = 0 then (fX6_meets (nI 1) m) else (if (m 35 s) = (m 35 t) then (it (lX6_copy_157 s i t j n m) (it (lX6_copy_120 s i m) m n) n) else (fX6_meets (nI 4) m))))
theorem fr_fX6_copy (s : Nat) (i : Nat) (t : Nat) (j : Nat) (n : Nat) (m : Mem) (f : Nat) (h37 : f ≠ 37) (h38 : f ≠ 38) (h39 : f ≠ 39) : fX6_copy s i t j n m f = m f := ite_fr ((fr_fX6_meets (nI 1) m f h39).trans (rfl)) (ite_fr ((fr_fX6_meets (nI 1) m f h39).trans (rfl)) (ite_fr ((fi_lX6_copy_157 s i t j n m (it (lX6_copy_120 s i m) m n) n f h37).trans ((fi_lX6_copy_120 s i m m n f h38).trans (rfl))) ((fr_fX6_meets (nI 4) m f h39).trans (rfl))))
set_option maxHeartbeats 4000000 in
set_option maxRecDepth 100000 in
theorem metX6_copy (l : Launch) (X : Mx) (m : Mem) (s : Nat) (i : Nat) (t : Nat) (j : Nat) (n : Nat) (sz : Nat → Nat) (hsz : ∀ j, j < 4 → m 36 j = nI (sz j)) (lsz : ∀ j, j < 4 → sz j < 61) (hs : s < 4) (ht : t < 4) (h1 : i + n ≤ sz s) (h2 : j + n ≤ sz t) : Cn l yX6_copy (ws_ yX6_copy cX6_copy 7 (some .int)) 3 0 0 [.ref (mx_ad X 40), .int (nI s), .int (nI i), .int (nI t), .int (nI j), .int (nI n)] (PicM X) (KM X) (mx_A X) m (fun rv_ w_ => rv_ = some (.int (rX6_copy s t m)) ∧ w_ = (fX6_copy s i t j n m)) := by
  refine cn_i (own := RX6) rfl (Nat.le_of_ble_eq_true rfl) rfl (fun g hgl hA F hret => ?_)
  refine Wd.eql (lv' := [(0, .ref (mx_ad X 40)), (1, .int (nI s)), (2, .int (nI i)), (3, .int (nI t)), (4, .int (nI j)), (5, .int (nI n))]) rfl ?_
  have hz1 := lsz s hs
  have hz2 := lsz t ht
  refine ro_iload_n F dX6_copy_0 1 rfl ?_
  refine mo_cS (rest := []) F hA (metX6_isSheet (gx_l g) X m (nI s) ) cwX6_162 hdX6_isSheet rfl (Nat.le_of_ble_eq_true rfl) (Nat.le_of_ble_eq_true rfl) (Nat.le_refl _) (Nat.le_refl _) rfl (Nat.le_of_ble_eq_true rfl) dX6_copy_1 ?_
  refine ro_if_eqB (tgt := 14) F dX6_copy_4 (by decide) (fun c4 => absurd (in_ok (by omega) (by omega) (by decide)) c4) (fun c4 => ?_)
  refine ro_iload_n F dX6_copy_7 3 rfl ?_
  refine mo_cS (rest := []) F hA (metX6_isSheet (gx_l g) X m (nI t) ) cwX6_162 hdX6_isSheet rfl (Nat.le_of_ble_eq_true rfl) (Nat.le_of_ble_eq_true rfl) (Nat.le_refl _) (Nat.le_refl _) rfl (Nat.le_of_ble_eq_true rfl) dX6_copy_8 ?_
  refine ro_if_neB (tgt := 17) F dX6_copy_11 (by decide) (fun c11 => ?_) (fun c11 => absurd (in_ok (by omega) (by omega) (by decide)) c11)
  refine ro_aload_n F dX6_copy_17 0 rfl ?_
  refine mo_gr F 34 (Nat.le_of_ble_eq_true rfl) (by decide) lkX6_80 rfl dX6_copy_18 ?_
  refine ro_iload_n F dX6_copy_21 1 rfl ?_
  refine mo_ldZ F 34 4 rfl (by decide) (by decide) rfl (by omega) dX6_copy_22 rfl ?_
  refine ro_if_eq (tgt := 35) F dX6_copy_23 (by decide) (fun c23 => ?_) (fun c23 => ?_)
  · refine ro_aload_n F dX6_copy_35 0 rfl ?_
    refine ro_iconst (v := (nI 1)) F dX6_copy_36 (by decide) ?_
    refine mo_cV (rest := []) F hA (metX6_meets (gx_l g) X m (nI 1) ) cwX6_165 hdX6_meets rfl (Nat.le_of_ble_eq_true rfl) (Nat.le_of_ble_eq_true rfl) (Nat.le_refl _) (Nat.le_refl _) rfl (Nat.le_of_ble_eq_true rfl) dX6_copy_37 ?_
    exact hret _ _ _ _ _ _ (Nat.le_refl _) (Nat.le_refl _) dX6_copy_40 rfl ⟨congrArg (fun z => some (Value.int z)) (by simp only [rX6_copy, if_pos c4, if_pos c11, if_pos c23]), (by simp only [fX6_copy, if_pos c4, if_pos c11, if_pos c23])⟩
  · refine ro_aload_n F dX6_copy_26 0 rfl ?_
    refine mo_gr F 34 (Nat.le_of_ble_eq_true rfl) (by decide) lkX6_80 rfl dX6_copy_27 ?_
    refine ro_iload_n F dX6_copy_30 3 rfl ?_
    refine mo_ldZ F 34 4 rfl (by decide) (by decide) rfl (by omega) dX6_copy_31 rfl ?_
    refine ro_if_ne (tgt := 41) F dX6_copy_32 (by decide) (fun c32 => ?_) (fun c32 => ?_)
    · refine ro_aload_n F dX6_copy_41 0 rfl ?_
      refine mo_gr F 35 (Nat.le_of_ble_eq_true rfl) (by decide) lkX6_83 rfl dX6_copy_42 ?_
      refine ro_iload_n F dX6_copy_45 1 rfl ?_
      refine mo_ldN F 35 4 rfl (by decide) (by decide) rfl (by omega) dX6_copy_46 rfl ?_
      refine ro_aload_n F dX6_copy_47 0 rfl ?_
      refine mo_gr F 35 (Nat.le_of_ble_eq_true rfl) (by decide) lkX6_83 rfl dX6_copy_48 ?_
      refine ro_iload_n F dX6_copy_51 3 rfl ?_
      refine mo_ldN F 35 4 rfl (by decide) (by decide) rfl (by omega) dX6_copy_52 rfl ?_
      refine ro_icmp_eq (tgt := 62) F dX6_copy_53 (by decide) (fun c53 => ?_) (fun c53 => ?_)
      · refine ro_iload_n F dX6_copy_62 2 rfl ?_
        refine ro_if_lt (tgt := 111) F dX6_copy_63 (by decide) (fun c63 => absurd c63 (nI_pos (by omega))) (fun c63 => ?_)
        refine ro_iload F dX6_copy_66 4 rfl ?_
        refine ro_if_lt (tgt := 111) F dX6_copy_68 (by decide) (fun c68 => absurd c68 (nI_pos (by omega))) (fun c68 => ?_)
        refine ro_iload F dX6_copy_71 5 rfl ?_
        refine ro_if_lt (tgt := 111) F dX6_copy_73 (by decide) (fun c73 => absurd c73 (nI_pos (by omega))) (fun c73 => ?_)
        refine ro_iload_n F dX6_copy_76 2 rfl ?_
        refine ro_i2l F dX6_copy_77 ?_
        refine ro_iload F dX6_copy_78 5 rfl ?_
        refine ro_i2l F dX6_copy_80 ?_
        refine ro_ladd F dX6_copy_81 ?_
        refine ro_aload_n F dX6_copy_82 0 rfl ?_
        refine mo_gr F 36 (Nat.le_of_ble_eq_true rfl) (by decide) lkX6_86 rfl dX6_copy_83 ?_
        refine ro_iload_n F dX6_copy_86 1 rfl ?_
        have hz := lsz s (by omega)
        refine mo_ldN F 36 4 rfl (by decide) (by decide) rfl (by omega) dX6_copy_87 (hsz s (by omega)) ?_
        refine ro_i2l F dX6_copy_88 ?_
        refine ro_lcmp F dX6_copy_89 ?_
        refine ro_lif_gt (tgt := 111) F dX6_copy_90 (by decide) (fun c90 => absurd c90 (fun q => absurd ((lng_nat (by omega) (by omega) (by omega)).mp q) (by omega))) (fun c90 => ?_)
        refine ro_iload F dX6_copy_93 4 rfl ?_
        refine ro_i2l F dX6_copy_95 ?_
        refine ro_iload F dX6_copy_96 5 rfl ?_
        refine ro_i2l F dX6_copy_98 ?_
        refine ro_ladd F dX6_copy_99 ?_
        refine ro_aload_n F dX6_copy_100 0 rfl ?_
        refine mo_gr F 36 (Nat.le_of_ble_eq_true rfl) (by decide) lkX6_86 rfl dX6_copy_101 ?_
        refine ro_iload_n F dX6_copy_104 3 rfl ?_
        have hz := lsz t (by omega)
        refine mo_ldN F 36 4 rfl (by decide) (by decide) rfl (by omega) dX6_copy_105 (hsz t (by omega)) ?_
        refine ro_i2l F dX6_copy_106 ?_
        refine ro_lcmp F dX6_copy_107 ?_
        refine ro_lif_le (tgt := 117) F dX6_copy_108 (by decide) (fun c108 => ?_) (fun c108 => absurd ((lng_natLe (by omega) (by omega) (by omega)).mpr h2) c108)
        refine ro_iconst (v := (nI 0)) F dX6_copy_117 (by decide) ?_
        refine ro_istore (lv' := [(0, .ref (mx_ad X 40)), (1, .int (nI s)), (2, .int (nI i)), (3, .int (nI t)), (4, .int (nI j)), (5, .int (nI n)), (6, .int (nI 0))]) F dX6_copy_118 (Nat.le_of_ble_eq_true rfl) [1, 2, 3, 4, 5, 6, 0] rfl ?_
        refine it_loop n (lX6_copy_120 s i m) m (fun (_ : Nat) (b120 : Mem) => ∀ f : Nat, f ≠ 38 → b120 f = m f) (fun (i120 : Nat) (b120 : Mem) => Wd (PicM X) g 7 b120 0 0 120 [(0, .ref (mx_ad X 40)), (1, .int (nI s)), (2, .int (nI i)), (3, .int (nI t)), (4, .int (nI j)), (5, .int (nI n)), (6, .int (nI i120))] []) (fun f _ => rfl) (fun i_ b_ _ hb f h38 => (fr_lX6_copy_120 s i m i_ b_ f h38).trans (hb f h38)) (fun i120 b120 hi120 hf120 ih120 => ?_) (fun b120 hf120 he120 => ?_)
        · refine ro_iload F dX6_copy_120 6 rfl ?_
          refine ro_iload F dX6_copy_122 5 rfl ?_
          refine ro_icmp_geN (tgt := 154) F dX6_copy_124 (by decide) (by omega) (by omega) (fun c124 => absurd c124 (by omega)) (fun c124 => ?_)
          refine ro_aload_n F dX6_copy_127 0 rfl ?_
          refine mo_gr F 38 (Nat.le_of_ble_eq_true rfl) (by decide) lkX6_92 rfl dX6_copy_128 ?_
          refine ro_iload F dX6_copy_131 6 rfl ?_
          refine ro_aload_n F dX6_copy_133 0 rfl ?_
          refine mo_gr F 37 (Nat.le_of_ble_eq_true rfl) (by decide) lkX6_89 rfl dX6_copy_134 ?_
          refine ro_bipush (v := (nI 60)) F dX6_copy_137 (by decide) ?_
          refine ro_iload_n F dX6_copy_139 1 rfl ?_
          refine ro_imulN F dX6_copy_140 ?_
          refine ro_iload_n F dX6_copy_141 2 rfl ?_
          refine ro_iaddN F dX6_copy_142 ?_
          refine ro_iload F dX6_copy_143 6 rfl ?_
          refine ro_iaddN F dX6_copy_145 ?_
          refine mo_ldN F 37 240 rfl (by decide) (by decide) rfl (by omega) dX6_copy_146 (congrFun (hf120 37 (by decide)) (((60 * s) + i) + i120)) ?_
          refine mo_stN F hA 38 60 rfl (by decide) (by decide) rfl (by omega) dX6_copy_147 ?_
          refine ro_iincN (z := 1) (lv' := [(0, .ref (mx_ad X 40)), (1, .int (nI s)), (2, .int (nI i)), (3, .int (nI t)), (4, .int (nI j)), (5, .int (nI n)), (6, .int (nI (i120 + 1)))]) F dX6_copy_148 6 rfl (Nat.le_of_ble_eq_true rfl) [1, 2, 3, 4, 5, 6, 0] rfl ?_
          refine ro_goto (tgt := 120) F dX6_copy_151 (by decide) ?_
          exact ih120
        subst he120
        refine ro_iload F dX6_copy_120 6 rfl ?_
        refine ro_iload F dX6_copy_122 5 rfl ?_
        refine ro_icmp_geN (tgt := 154) F dX6_copy_124 (by decide) (by omega) (by omega) (fun c124 => ?_) (fun c124 => absurd c124 (by omega))
        refine ro_iconst (v := (nI 0)) F dX6_copy_154 (by decide) ?_
        refine ro_istore (lv' := [(0, .ref (mx_ad X 40)), (1, .int (nI s)), (2, .int (nI i)), (3, .int (nI t)), (4, .int (nI j)), (5, .int (nI n)), (6, .int (nI 0))]) F dX6_copy_155 (Nat.le_of_ble_eq_true rfl) [1, 2, 3, 4, 5, 6, 0] rfl ?_
        refine Wd.sub (lv' := [(0, .ref (mx_ad X 40)), (3, .int (nI t)), (4, .int (nI j)), (5, .int (nI n)), (6, .int (nI 0))]) [0, 3, 4, 5, 6] rfl ?_
        refine it_loop n (lX6_copy_157 s i t j n m) (it (lX6_copy_120 s i m) m n) (fun (_ : Nat) (b157 : Mem) => ∀ f : Nat, f ≠ 37 → b157 f = (it (lX6_copy_120 s i m) m n) f) (fun (i157 : Nat) (b157 : Mem) => Wd (PicM X) g 7 b157 0 0 157 [(0, .ref (mx_ad X 40)), (3, .int (nI t)), (4, .int (nI j)), (5, .int (nI n)), (6, .int (nI i157))] []) (fun f _ => rfl) (fun i_ b_ _ hb f h37 => (fr_lX6_copy_157 s i t j n m i_ b_ f h37).trans (hb f h37)) (fun i157 b157 hi157 hf157 ih157 => ?_) (fun b157 hf157 he157 => ?_)
        · refine ro_iload F dX6_copy_157 4 rfl ?_
          refine ro_iload F dX6_copy_159 3 rfl ?_
          refine ro_icmp_geN (tgt := 192) F dX6_copy_161 (by decide) (by omega) (by omega) (fun c161 => absurd c161 (by omega)) (fun c161 => ?_)
          refine ro_aload_n F dX6_copy_164 0 rfl ?_
          refine mo_gr F 37 (Nat.le_of_ble_eq_true rfl) (by decide) lkX6_89 rfl dX6_copy_165 ?_
          refine ro_bipush (v := (nI 60)) F dX6_copy_168 (by decide) ?_
          refine ro_iload_n F dX6_copy_170 1 rfl ?_
          refine ro_imulN F dX6_copy_171 ?_
          refine ro_iload F dX6_copy_172 2 rfl ?_
          refine ro_iaddN F dX6_copy_174 ?_
          refine ro_iload F dX6_copy_175 4 rfl ?_
          refine ro_iaddN F dX6_copy_177 ?_
          refine ro_aload_n F dX6_copy_178 0 rfl ?_
          refine mo_gr F 38 (Nat.le_of_ble_eq_true rfl) (by decide) lkX6_92 rfl dX6_copy_179 ?_
          refine ro_iload F dX6_copy_182 4 rfl ?_
          refine mo_ldN F 38 60 rfl (by decide) (by decide) rfl (by omega) dX6_copy_184 (congrFun (hf157 38 (by decide)) i157) ?_
          refine mo_stN F hA 37 240 rfl (by decide) (by decide) rfl (by omega) dX6_copy_185 ?_
          refine ro_iincN (z := 1) (lv' := [(0, .ref (mx_ad X 40)), (3, .int (nI t)), (4, .int (nI j)), (5, .int (nI n)), (6, .int (nI (i157 + 1)))]) F dX6_copy_186 4 rfl (Nat.le_of_ble_eq_true rfl) [1, 2, 3, 4, 0] rfl ?_
          refine ro_goto (tgt := 157) F dX6_copy_189 (by decide) ?_
          exact ih157
        subst he157
        refine ro_iload F dX6_copy_157 4 rfl ?_
        refine ro_iload F dX6_copy_159 3 rfl ?_
        refine ro_icmp_geN (tgt := 192) F dX6_copy_161 (by decide) (by omega) (by omega) (fun c161 => ?_) (fun c161 => absurd c161 (by omega))
        refine ro_iconst (v := (nI 1)) F dX6_copy_192 (by decide) ?_
        exact hret _ _ _ _ _ _ (Nat.le_refl _) (Nat.le_refl _) dX6_copy_193 rfl ⟨congrArg (fun z => some (Value.int z)) (by simp only [rX6_copy, if_pos c4, if_pos c11, if_neg c23, if_neg c32, if_pos c53, if_neg c63, if_neg c68, if_neg c73, if_neg c90, if_pos c108]), (by simp only [fX6_copy, if_pos c4, if_pos c11, if_neg c23, if_neg c32, if_pos c53, if_neg c63, if_neg c68, if_neg c73, if_neg c90, if_pos c108])⟩
      · refine ro_aload_n F dX6_copy_56 0 rfl ?_
        refine ro_iconst (v := (nI 4)) F dX6_copy_57 (by decide) ?_
        refine mo_cV (rest := []) F hA (metX6_meets (gx_l g) X m (nI 4) ) cwX6_165 hdX6_meets rfl (Nat.le_of_ble_eq_true rfl) (Nat.le_of_ble_eq_true rfl) (Nat.le_refl _) (Nat.le_refl _) rfl (Nat.le_of_ble_eq_true rfl) dX6_copy_58 ?_
        exact hret _ _ _ _ _ _ (Nat.le_refl _) (Nat.le_refl _) dX6_copy_61 rfl ⟨congrArg (fun z => some (Value.int z)) (by simp only [rX6_copy, if_pos c4, if_pos c11, if_neg c23, if_neg c32, if_neg c53]), (by simp only [fX6_copy, if_pos c4, if_pos c11, if_neg c23, if_neg c32, if_neg c53])⟩
    · refine ro_aload_n F dX6_copy_35 0 rfl ?_
      refine ro_iconst (v := (nI 1)) F dX6_copy_36 (by decide) ?_
      refine mo_cV (rest := []) F hA (metX6_meets (gx_l g) X m (nI 1) ) cwX6_165 hdX6_meets rfl (Nat.le_of_ble_eq_true rfl) (Nat.le_of_ble_eq_true rfl) (Nat.le_refl _) (Nat.le_refl _) rfl (Nat.le_of_ble_eq_true rfl) dX6_copy_37 ?_
      exact hret _ _ _ _ _ _ (Nat.le_refl _) (Nat.le_refl _) dX6_copy_40 rfl ⟨congrArg (fun z => some (Value.int z)) (by simp only [rX6_copy, if_pos c4, if_pos c11, if_neg c23, if_pos c32]), (by simp only [fX6_copy, if_pos c4, if_pos c11, if_neg c23, if_pos c32])⟩
noncomputable def rX6_copy_out (s : Nat) (t : Nat) (m : Mem) : Int32 := (if (m 34 s) = 0 then (rX6_meets (nI 1)) else (if (m 34 t) = 0 then (rX6_meets (nI 1)) else (if (m 35 s) = (m 35 t) then (rX6_meets (nI 2)) else (rX6_meets (nI 4)))))
noncomputable def fX6_copy_out (s : Nat) (t : Nat) (m : Mem) : Mem := (if (m 34 s) = 0 then (fX6_meets (nI 1) m) else (if (m 34 t) = 0 then (fX6_meets (nI 1) m) else (if (m 35 s) = (m 35 t) then (fX6_meets (nI 2) m) else (fX6_meets (nI 4) m))))
theorem fr_fX6_copy_out (s : Nat) (t : Nat) (m : Mem) (f : Nat) (h39 : f ≠ 39) : fX6_copy_out s t m f = m f := ite_fr ((fr_fX6_meets (nI 1) m f h39).trans (rfl)) (ite_fr ((fr_fX6_meets (nI 1) m f h39).trans (rfl)) (ite_fr ((fr_fX6_meets (nI 2) m f h39).trans (rfl)) ((fr_fX6_meets (nI 4) m f h39).trans (rfl))))
set_option maxHeartbeats 4000000 in
set_option maxRecDepth 100000 in
theorem metX6_copy_out (l : Launch) (X : Mx) (m : Mem) (s : Nat) (i : Int32) (t : Nat) (j : Int32) (n : Int32) (sz : Nat → Nat) (hsz : ∀ j, j < 4 → m 36 j = nI (sz j)) (lsz : ∀ j, j < 4 → sz j < 61) (hs : s < 4) (ht : t < 4) (hb : ¬ (¬ i < 0 ∧ ¬ j < 0 ∧ ¬ n < 0 ∧ ¬ ((nI (sz s)).toInt64 < i.toInt64 + n.toInt64) ∧ j.toInt64 + n.toInt64 ≤ (nI (sz t)).toInt64)) : Cn l yX6_copy (ws_ yX6_copy cX6_copy 7 (some .int)) 3 0 0 [.ref (mx_ad X 40), .int (nI s), .int i, .int (nI t), .int j, .int n] (PicM X) (KM X) (mx_A X) m (fun rv_ w_ => rv_ = some (.int (rX6_copy_out s t m)) ∧ w_ = (fX6_copy_out s t m)) := by
  refine cn_i (own := RX6) rfl (Nat.le_of_ble_eq_true rfl) rfl (fun g hgl hA F hret => ?_)
  refine Wd.eql (lv' := [(0, .ref (mx_ad X 40)), (1, .int (nI s)), (2, .int i), (3, .int (nI t)), (4, .int j), (5, .int n)]) rfl ?_
  refine ro_iload_n F dX6_copy_0 1 rfl ?_
  refine mo_cS (rest := []) F hA (metX6_isSheet (gx_l g) X m (nI s) ) cwX6_162 hdX6_isSheet rfl (Nat.le_of_ble_eq_true rfl) (Nat.le_of_ble_eq_true rfl) (Nat.le_refl _) (Nat.le_refl _) rfl (Nat.le_of_ble_eq_true rfl) dX6_copy_1 ?_
  refine ro_if_eqB (tgt := 14) F dX6_copy_4 (by decide) (fun c4 => absurd (in_ok (by omega) (by omega) (by decide)) c4) (fun c4 => ?_)
  refine ro_iload_n F dX6_copy_7 3 rfl ?_
  refine mo_cS (rest := []) F hA (metX6_isSheet (gx_l g) X m (nI t) ) cwX6_162 hdX6_isSheet rfl (Nat.le_of_ble_eq_true rfl) (Nat.le_of_ble_eq_true rfl) (Nat.le_refl _) (Nat.le_refl _) rfl (Nat.le_of_ble_eq_true rfl) dX6_copy_8 ?_
  refine ro_if_neB (tgt := 17) F dX6_copy_11 (by decide) (fun c11 => ?_) (fun c11 => absurd (in_ok (by omega) (by omega) (by decide)) c11)
  refine ro_aload_n F dX6_copy_17 0 rfl ?_
  refine mo_gr F 34 (Nat.le_of_ble_eq_true rfl) (by decide) lkX6_80 rfl dX6_copy_18 ?_
  refine ro_iload_n F dX6_copy_21 1 rfl ?_
  refine mo_ldZ F 34 4 rfl (by decide) (by decide) rfl (by omega) dX6_copy_22 rfl ?_
  refine ro_if_eq (tgt := 35) F dX6_copy_23 (by decide) (fun c23 => ?_) (fun c23 => ?_)
  · refine ro_aload_n F dX6_copy_35 0 rfl ?_
    refine ro_iconst (v := (nI 1)) F dX6_copy_36 (by decide) ?_
    refine mo_cV (rest := []) F hA (metX6_meets (gx_l g) X m (nI 1) ) cwX6_165 hdX6_meets rfl (Nat.le_of_ble_eq_true rfl) (Nat.le_of_ble_eq_true rfl) (Nat.le_refl _) (Nat.le_refl _) rfl (Nat.le_of_ble_eq_true rfl) dX6_copy_37 ?_
    exact hret _ _ _ _ _ _ (Nat.le_refl _) (Nat.le_refl _) dX6_copy_40 rfl ⟨congrArg (fun z => some (Value.int z)) (by simp only [rX6_copy_out, if_pos c4, if_pos c11, if_pos c23]), (by simp only [fX6_copy_out, if_pos c4, if_pos c11, if_pos c23])⟩
  · refine ro_aload_n F dX6_copy_26 0 rfl ?_
    refine mo_gr F 34 (Nat.le_of_ble_eq_true rfl) (by decide) lkX6_80 rfl dX6_copy_27 ?_
    refine ro_iload_n F dX6_copy_30 3 rfl ?_
    refine mo_ldZ F 34 4 rfl (by decide) (by decide) rfl (by omega) dX6_copy_31 rfl ?_
    refine ro_if_ne (tgt := 41) F dX6_copy_32 (by decide) (fun c32 => ?_) (fun c32 => ?_)
    · refine ro_aload_n F dX6_copy_41 0 rfl ?_
      refine mo_gr F 35 (Nat.le_of_ble_eq_true rfl) (by decide) lkX6_83 rfl dX6_copy_42 ?_
      refine ro_iload_n F dX6_copy_45 1 rfl ?_
      refine mo_ldN F 35 4 rfl (by decide) (by decide) rfl (by omega) dX6_copy_46 rfl ?_
      refine ro_aload_n F dX6_copy_47 0 rfl ?_
      refine mo_gr F 35 (Nat.le_of_ble_eq_true rfl) (by decide) lkX6_83 rfl dX6_copy_48 ?_
      refine ro_iload_n F dX6_copy_51 3 rfl ?_
      refine mo_ldN F 35 4 rfl (by decide) (by decide) rfl (by omega) dX6_copy_52 rfl ?_
      refine ro_icmp_eq (tgt := 62) F dX6_copy_53 (by decide) (fun c53 => ?_) (fun c53 => ?_)
      · refine ro_iload_n F dX6_copy_62 2 rfl ?_
        refine ro_if_lt (tgt := 111) F dX6_copy_63 (by decide) (fun c63 => ?_) (fun c63 => ?_)
        · refine ro_aload_n F dX6_copy_111 0 rfl ?_
          refine ro_iconst (v := (nI 2)) F dX6_copy_112 (by decide) ?_
          refine mo_cV (rest := []) F hA (metX6_meets (gx_l g) X m (nI 2) ) cwX6_165 hdX6_meets rfl (Nat.le_of_ble_eq_true rfl) (Nat.le_of_ble_eq_true rfl) (Nat.le_refl _) (Nat.le_refl _) rfl (Nat.le_of_ble_eq_true rfl) dX6_copy_113 ?_
          exact hret _ _ _ _ _ _ (Nat.le_refl _) (Nat.le_refl _) dX6_copy_116 rfl ⟨congrArg (fun z => some (Value.int z)) (by simp only [rX6_copy_out, if_pos c4, if_pos c11, if_neg c23, if_neg c32, if_pos c53, if_pos c63]), (by simp only [fX6_copy_out, if_pos c4, if_pos c11, if_neg c23, if_neg c32, if_pos c53, if_pos c63])⟩
        · refine ro_iload F dX6_copy_66 4 rfl ?_
          refine ro_if_lt (tgt := 111) F dX6_copy_68 (by decide) (fun c68 => ?_) (fun c68 => ?_)
          · refine ro_aload_n F dX6_copy_111 0 rfl ?_
            refine ro_iconst (v := (nI 2)) F dX6_copy_112 (by decide) ?_
            refine mo_cV (rest := []) F hA (metX6_meets (gx_l g) X m (nI 2) ) cwX6_165 hdX6_meets rfl (Nat.le_of_ble_eq_true rfl) (Nat.le_of_ble_eq_true rfl) (Nat.le_refl _) (Nat.le_refl _) rfl (Nat.le_of_ble_eq_true rfl) dX6_copy_113 ?_
            exact hret _ _ _ _ _ _ (Nat.le_refl _) (Nat.le_refl _) dX6_copy_116 rfl ⟨congrArg (fun z => some (Value.int z)) (by simp only [rX6_copy_out, if_pos c4, if_pos c11, if_neg c23, if_neg c32, if_pos c53, if_neg c63, if_pos c68]), (by simp only [fX6_copy_out, if_pos c4, if_pos c11, if_neg c23, if_neg c32, if_pos c53, if_neg c63, if_pos c68])⟩
          · refine ro_iload F dX6_copy_71 5 rfl ?_
            refine ro_if_lt (tgt := 111) F dX6_copy_73 (by decide) (fun c73 => ?_) (fun c73 => ?_)
            · refine ro_aload_n F dX6_copy_111 0 rfl ?_
              refine ro_iconst (v := (nI 2)) F dX6_copy_112 (by decide) ?_
              refine mo_cV (rest := []) F hA (metX6_meets (gx_l g) X m (nI 2) ) cwX6_165 hdX6_meets rfl (Nat.le_of_ble_eq_true rfl) (Nat.le_of_ble_eq_true rfl) (Nat.le_refl _) (Nat.le_refl _) rfl (Nat.le_of_ble_eq_true rfl) dX6_copy_113 ?_
              exact hret _ _ _ _ _ _ (Nat.le_refl _) (Nat.le_refl _) dX6_copy_116 rfl ⟨congrArg (fun z => some (Value.int z)) (by simp only [rX6_copy_out, if_pos c4, if_pos c11, if_neg c23, if_neg c32, if_pos c53, if_neg c63, if_neg c68, if_pos c73]), (by simp only [fX6_copy_out, if_pos c4, if_pos c11, if_neg c23, if_neg c32, if_pos c53, if_neg c63, if_neg c68, if_pos c73])⟩
            · refine ro_iload_n F dX6_copy_76 2 rfl ?_
              refine ro_i2l F dX6_copy_77 ?_
              refine ro_iload F dX6_copy_78 5 rfl ?_
              refine ro_i2l F dX6_copy_80 ?_
              refine ro_ladd F dX6_copy_81 ?_
              refine ro_aload_n F dX6_copy_82 0 rfl ?_
              refine mo_gr F 36 (Nat.le_of_ble_eq_true rfl) (by decide) lkX6_86 rfl dX6_copy_83 ?_
              refine ro_iload_n F dX6_copy_86 1 rfl ?_
              have hz := lsz s (by omega)
              refine mo_ldN F 36 4 rfl (by decide) (by decide) rfl (by omega) dX6_copy_87 (hsz s (by omega)) ?_
              refine ro_i2l F dX6_copy_88 ?_
              refine ro_lcmp F dX6_copy_89 ?_
              refine ro_lif_gt (tgt := 111) F dX6_copy_90 (by decide) (fun c90 => ?_) (fun c90 => ?_)
              · refine ro_aload_n F dX6_copy_111 0 rfl ?_
                refine ro_iconst (v := (nI 2)) F dX6_copy_112 (by decide) ?_
                refine mo_cV (rest := []) F hA (metX6_meets (gx_l g) X m (nI 2) ) cwX6_165 hdX6_meets rfl (Nat.le_of_ble_eq_true rfl) (Nat.le_of_ble_eq_true rfl) (Nat.le_refl _) (Nat.le_refl _) rfl (Nat.le_of_ble_eq_true rfl) dX6_copy_113 ?_
                exact hret _ _ _ _ _ _ (Nat.le_refl _) (Nat.le_refl _) dX6_copy_116 rfl ⟨congrArg (fun z => some (Value.int z)) (by simp only [rX6_copy_out, if_pos c4, if_pos c11, if_neg c23, if_neg c32, if_pos c53, if_neg c63, if_neg c68, if_neg c73, if_pos c90]), (by simp only [fX6_copy_out, if_pos c4, if_pos c11, if_neg c23, if_neg c32, if_pos c53, if_neg c63, if_neg c68, if_neg c73, if_pos c90])⟩
              · refine ro_iload F dX6_copy_93 4 rfl ?_
                refine ro_i2l F dX6_copy_95 ?_
                refine ro_iload F dX6_copy_96 5 rfl ?_
                refine ro_i2l F dX6_copy_98 ?_
                refine ro_ladd F dX6_copy_99 ?_
                refine ro_aload_n F dX6_copy_100 0 rfl ?_
                refine mo_gr F 36 (Nat.le_of_ble_eq_true rfl) (by decide) lkX6_86 rfl dX6_copy_101 ?_
                refine ro_iload_n F dX6_copy_104 3 rfl ?_
                have hz := lsz t (by omega)
                refine mo_ldN F 36 4 rfl (by decide) (by decide) rfl (by omega) dX6_copy_105 (hsz t (by omega)) ?_
                refine ro_i2l F dX6_copy_106 ?_
                refine ro_lcmp F dX6_copy_107 ?_
                refine ro_lif_le (tgt := 117) F dX6_copy_108 (by decide) (fun c108 => absurd ⟨c63, c68, c73, c90, c108⟩ hb) (fun c108 => ?_)
                refine ro_aload_n F dX6_copy_111 0 rfl ?_
                refine ro_iconst (v := (nI 2)) F dX6_copy_112 (by decide) ?_
                refine mo_cV (rest := []) F hA (metX6_meets (gx_l g) X m (nI 2) ) cwX6_165 hdX6_meets rfl (Nat.le_of_ble_eq_true rfl) (Nat.le_of_ble_eq_true rfl) (Nat.le_refl _) (Nat.le_refl _) rfl (Nat.le_of_ble_eq_true rfl) dX6_copy_113 ?_
                exact hret _ _ _ _ _ _ (Nat.le_refl _) (Nat.le_refl _) dX6_copy_116 rfl ⟨congrArg (fun z => some (Value.int z)) (by simp only [rX6_copy_out, if_pos c4, if_pos c11, if_neg c23, if_neg c32, if_pos c53, if_neg c63, if_neg c68, if_neg c73, if_neg c90, if_neg c108]), (by simp only [fX6_copy_out, if_pos c4, if_pos c11, if_neg c23, if_neg c32, if_pos c53, if_neg c63, if_neg c68, if_neg c73, if_neg c90, if_neg c108])⟩
      · refine ro_aload_n F dX6_copy_56 0 rfl ?_
        refine ro_iconst (v := (nI 4)) F dX6_copy_57 (by decide) ?_
        refine mo_cV (rest := []) F hA (metX6_meets (gx_l g) X m (nI 4) ) cwX6_165 hdX6_meets rfl (Nat.le_of_ble_eq_true rfl) (Nat.le_of_ble_eq_true rfl) (Nat.le_refl _) (Nat.le_refl _) rfl (Nat.le_of_ble_eq_true rfl) dX6_copy_58 ?_
        exact hret _ _ _ _ _ _ (Nat.le_refl _) (Nat.le_refl _) dX6_copy_61 rfl ⟨congrArg (fun z => some (Value.int z)) (by simp only [rX6_copy_out, if_pos c4, if_pos c11, if_neg c23, if_neg c32, if_neg c53]), (by simp only [fX6_copy_out, if_pos c4, if_pos c11, if_neg c23, if_neg c32, if_neg c53])⟩
    · refine ro_aload_n F dX6_copy_35 0 rfl ?_
      refine ro_iconst (v := (nI 1)) F dX6_copy_36 (by decide) ?_
      refine mo_cV (rest := []) F hA (metX6_meets (gx_l g) X m (nI 1) ) cwX6_165 hdX6_meets rfl (Nat.le_of_ble_eq_true rfl) (Nat.le_of_ble_eq_true rfl) (Nat.le_refl _) (Nat.le_refl _) rfl (Nat.le_of_ble_eq_true rfl) dX6_copy_37 ?_
      exact hret _ _ _ _ _ _ (Nat.le_refl _) (Nat.le_refl _) dX6_copy_40 rfl ⟨congrArg (fun z => some (Value.int z)) (by simp only [rX6_copy_out, if_pos c4, if_pos c11, if_neg c23, if_pos c32]), (by simp only [fX6_copy_out, if_pos c4, if_pos c11, if_neg c23, if_pos c32])⟩
set_option maxHeartbeats 4000000 in
set_option maxRecDepth 100000 in
theorem metX6_copy_no (l : Launch) (X : Mx) (m : Mem) (s : Int32) (i : Int32) (t : Int32) (j : Int32) (n : Int32)  (hb : ¬ ((¬ (s < nI 0) ∧ ¬ (nI 3 < s)) ∧ (¬ (t < nI 0) ∧ ¬ (nI 3 < t)))) : Cn l yX6_copy (ws_ yX6_copy cX6_copy 7 (some .int)) 3 0 0 [.ref (mx_ad X 40), .int s, .int i, .int t, .int j, .int n] (PicM X) (KM X) (mx_A X) m (fun rv_ w_ => rv_ = some (.int (-2)) ∧ w_ = m) := by
  refine cn_i (own := RX6) rfl (Nat.le_of_ble_eq_true rfl) rfl (fun g hgl hA F hret => ?_)
  refine Wd.eql (lv' := [(0, .ref (mx_ad X 40)), (1, .int s), (2, .int i), (3, .int t), (4, .int j), (5, .int n)]) rfl ?_
  refine ro_iload_n F dX6_copy_0 1 rfl ?_
  refine mo_cS (rest := []) F hA (metX6_isSheet (gx_l g) X m s ) cwX6_162 hdX6_isSheet rfl (Nat.le_of_ble_eq_true rfl) (Nat.le_of_ble_eq_true rfl) (Nat.le_refl _) (Nat.le_refl _) rfl (Nat.le_of_ble_eq_true rfl) dX6_copy_1 ?_
  refine ro_if_eqB (tgt := 14) F dX6_copy_4 (by decide) (fun c4 => ?_) (fun c4 => ?_)
  · refine ro_bipush (v := (-2)) F dX6_copy_14 (by decide) ?_
    exact hret _ _ _ _ _ _ (Nat.le_refl _) (Nat.le_refl _) dX6_copy_16 rfl ⟨rfl, rfl⟩
  · refine ro_iload_n F dX6_copy_7 3 rfl ?_
    refine mo_cS (rest := []) F hA (metX6_isSheet (gx_l g) X m t ) cwX6_162 hdX6_isSheet rfl (Nat.le_of_ble_eq_true rfl) (Nat.le_of_ble_eq_true rfl) (Nat.le_refl _) (Nat.le_refl _) rfl (Nat.le_of_ble_eq_true rfl) dX6_copy_8 ?_
    refine ro_if_neB (tgt := 17) F dX6_copy_11 (by decide) (fun c11 => absurd ⟨c4, c11⟩ hb) (fun c11 => ?_)
    refine ro_bipush (v := (-2)) F dX6_copy_14 (by decide) ?_
    exact hret _ _ _ _ _ _ (Nat.le_refl _) (Nat.le_refl _) dX6_copy_16 rfl ⟨rfl, rfl⟩
