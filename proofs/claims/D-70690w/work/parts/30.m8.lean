noncomputable def lX6_matchNow_8 (i8 : Nat) (b8 : Mem) : Mem := (m2 b8 28 i8 (nI 0))
theorem fr_lX6_matchNow_8 (i8 : Nat) (b8 : Mem) (f : Nat) (h28 : f ≠ 28) : lX6_matchNow_8  i8 b8 f = b8 f := (m2_ff _ _ h28).trans (rfl)
theorem fi_lX6_matchNow_8 (b8 : Mem) (n_ : Nat) (f : Nat) (h28 : f ≠ 28) : (it lX6_matchNow_8 b8 n_) f = b8 f := it_fr (fun i_ b_ => fr_lX6_matchNow_8  i_ b_ f h28) n_
noncomputable def lX6_matchNow_54 (tl : Nat → Nat) (nc : Nat) (nw : Nat) (cd : Nat → Nat) (cs : Nat → Nat) (wd : Nat → Nat) (m : Mem) (i30 : Nat) (i47 : Nat) (i54 : Nat) (b54 : Mem) : Mem := (m2 b54 28 ((2 ^ (nP tl m) - 1) - i47) (if (if ((((nI ((2 ^ (nP tl m) - 1) - i47)) >>> ((nI i54) &&& 31)) &&& (nI 1)) = (nI 1)) ∧ ((((fX6_asTold tl nc nw cd cs wd m) 8 i54) = ((fX6_asTold tl nc nw cd cs wd m) 5 i30)) ∧ (¬ (((nI 10) * ((fX6_asTold tl nc nw cd cs wd m) 7 i54)) < (((fX6_asTold tl nc nw cd cs wd m) 3 i30) * ((fX6_asTold tl nc nw cd cs wd m) 16 0))))) then ((b54 28 (2 ^ (nP tl m) - 1 - i47 - 2 ^ i54)) + (nI 1)) else (nI 0)) ≤ (b54 28 ((2 ^ (nP tl m) - 1) - i47)) then (b54 28 ((2 ^ (nP tl m) - 1) - i47)) else (if ((((nI ((2 ^ (nP tl m) - 1) - i47)) >>> ((nI i54) &&& 31)) &&& (nI 1)) = (nI 1)) ∧ ((((fX6_asTold tl nc nw cd cs wd m) 8 i54) = ((fX6_asTold tl nc nw cd cs wd m) 5 i30)) ∧ (¬ (((nI 10) * ((fX6_asTold tl nc nw cd cs wd m) 7 i54)) < (((fX6_asTold tl nc nw cd cs wd m) 3 i30) * ((fX6_asTold tl nc nw cd cs wd m) 16 0))))) then ((b54 28 (2 ^ (nP tl m) - 1 - i47 - 2 ^ i54)) + (nI 1)) else (nI 0))))
theorem fr_lX6_matchNow_54 (tl : Nat → Nat) (nc : Nat) (nw : Nat) (cd : Nat → Nat) (cs : Nat → Nat) (wd : Nat → Nat) (m : Mem) (i30 : Nat) (i47 : Nat) (i54 : Nat) (b54 : Mem) (f : Nat) (h28 : f ≠ 28) : lX6_matchNow_54 tl nc nw cd cs wd m i30 i47 i54 b54 f = b54 f := (m2_ff _ _ h28).trans (rfl)
theorem fi_lX6_matchNow_54 (tl : Nat → Nat) (nc : Nat) (nw : Nat) (cd : Nat → Nat) (cs : Nat → Nat) (wd : Nat → Nat) (m : Mem) (i30 : Nat) (i47 : Nat) (b54 : Mem) (n_ : Nat) (f : Nat) (h28 : f ≠ 28) : (it (lX6_matchNow_54 tl nc nw cd cs wd m i30 i47) b54 n_) f = b54 f := it_fr (fun i_ b_ => fr_lX6_matchNow_54 tl nc nw cd cs wd m i30 i47 i_ b_ f h28) n_
noncomputable def lX6_matchNow_47 (tl : Nat → Nat) (nc : Nat) (nw : Nat) (cd : Nat → Nat) (cs : Nat → Nat) (wd : Nat → Nat) (m : Mem) (i30 : Nat) (i47 : Nat) (b47 : Mem) : Mem := (it (lX6_matchNow_54 tl nc nw cd cs wd m i30 i47) b47 (nP tl m))
theorem fr_lX6_matchNow_47 (tl : Nat → Nat) (nc : Nat) (nw : Nat) (cd : Nat → Nat) (cs : Nat → Nat) (wd : Nat → Nat) (m : Mem) (i30 : Nat) (i47 : Nat) (b47 : Mem) (f : Nat) (h28 : f ≠ 28) : lX6_matchNow_47 tl nc nw cd cs wd m i30 i47 b47 f = b47 f := (fi_lX6_matchNow_54 tl nc nw cd cs wd m i30 i47 b47 (nP tl m) f h28).trans (rfl)
theorem fi_lX6_matchNow_47 (tl : Nat → Nat) (nc : Nat) (nw : Nat) (cd : Nat → Nat) (cs : Nat → Nat) (wd : Nat → Nat) (m : Mem) (i30 : Nat) (b47 : Mem) (n_ : Nat) (f : Nat) (h28 : f ≠ 28) : (it (lX6_matchNow_47 tl nc nw cd cs wd m i30) b47 n_) f = b47 f := it_fr (fun i_ b_ => fr_lX6_matchNow_47 tl nc nw cd cs wd m i30 i_ b_ f h28) n_
noncomputable def lX6_matchNow_30 (tl : Nat → Nat) (nc : Nat) (nw : Nat) (cd : Nat → Nat) (cs : Nat → Nat) (wd : Nat → Nat) (m : Mem) (i30 : Nat) (b30 : Mem) : Mem := (it (lX6_matchNow_47 tl nc nw cd cs wd m i30) b30 (2 ^ (nP tl m) - 1))
theorem fr_lX6_matchNow_30 (tl : Nat → Nat) (nc : Nat) (nw : Nat) (cd : Nat → Nat) (cs : Nat → Nat) (wd : Nat → Nat) (m : Mem) (i30 : Nat) (b30 : Mem) (f : Nat) (h28 : f ≠ 28) : lX6_matchNow_30 tl nc nw cd cs wd m i30 b30 f = b30 f := (fi_lX6_matchNow_47 tl nc nw cd cs wd m i30 b30 (2 ^ (nP tl m) - 1) f h28).trans (rfl)
theorem fi_lX6_matchNow_30 (tl : Nat → Nat) (nc : Nat) (nw : Nat) (cd : Nat → Nat) (cs : Nat → Nat) (wd : Nat → Nat) (m : Mem) (b30 : Mem) (n_ : Nat) (f : Nat) (h28 : f ≠ 28) : (it (lX6_matchNow_30 tl nc nw cd cs wd m) b30 n_) f = b30 f := it_fr (fun i_ b_ => fr_lX6_matchNow_30 tl nc nw cd cs wd m i_ b_ f h28) n_
noncomputable def lX6_matchNow_193 (tl : Nat → Nat) (nc : Nat) (nw : Nat) (cd : Nat → Nat) (cs : Nat → Nat) (wd : Nat → Nat) (m : Mem) (i193 : Nat) (b193 : Int32) : Int32 := (if ((it (lX6_matchNow_30 tl nc nw cd cs wd m) (it lX6_matchNow_8 (fX6_asTold tl nc nw cd cs wd m) 256) (nS tl m)) 28 i193) ≤ b193 then b193 else ((it (lX6_matchNow_30 tl nc nw cd cs wd m) (it lX6_matchNow_8 (fX6_asTold tl nc nw cd cs wd m) 256) (nS tl m)) 28 i193))
noncomputable def rX6_matchNow (tl : Nat → Nat) (nc : Nat) (nw : Nat) (cd : Nat → Nat) (cs : Nat → Nat) (wd : Nat → Nat) (m : Mem) : Int32 := (it (lX6_matchNow_193 tl nc nw cd cs wd m) (nI 0) (2 ^ (nP tl m)))
noncomputable def fX6_matchNow (tl : Nat → Nat) (nc : Nat) (nw : Nat) (cd : Nat → Nat) (cs : Nat → Nat) (wd : Nat → Nat) (m : Mem) : Mem := (it (lX6_matchNow_30 tl nc nw cd cs wd m) (it lX6_matchNow_8 (fX6_asTold tl nc nw cd cs wd m) 256) (nS tl m))
theorem fr_fX6_matchNow (tl : Nat → Nat) (nc : Nat) (nw : Nat) (cd : Nat → Nat) (cs : Nat → Nat) (wd : Nat → Nat) (m : Mem) (f : Nat) (h2 : f ≠ 2) (h3 : f ≠ 3) (h4 : f ≠ 4) (h5 : f ≠ 5) (h6 : f ≠ 6) (h7 : f ≠ 7) (h8 : f ≠ 8) (h16 : f ≠ 16) (h17 : f ≠ 17) (h18 : f ≠ 18) (h28 : f ≠ 28) : fX6_matchNow tl nc nw cd cs wd m f = m f := (fi_lX6_matchNow_30 tl nc nw cd cs wd m (it lX6_matchNow_8 (fX6_asTold tl nc nw cd cs wd m) 256) (nS tl m) f h28).trans ((fi_lX6_matchNow_8  (fX6_asTold tl nc nw cd cs wd m) 256 f h28).trans ((fr_fX6_asTold tl nc nw cd cs wd m f h2 h3 h4 h5 h6 h7 h8 h16 h17 h18).trans (rfl)))
theorem gv_X6_matchNow_2 (m : Mem)  (tl : Nat → Nat) (nc : Nat) (nw : Nat) (cd : Nat → Nat) (cs : Nat → Nat) (wd : Nat → Nat) (htl : ∀ t, t < 2 → m 0 t = nI (tl t)) (ltl : ∀ t, tl t ≤ 31) (hnc : m 11 0 = nI nc) (lnc : nc ≤ 8) (hnw : m 14 0 = nI nw) (lnw : nw ≤ 6) (hcd : ∀ j, j < nc → m 12 j = nI (cd j)) (lcd : ∀ j, j < nc → cd j < 20) (hcs : ∀ j, j < nc → m 13 j = nI (cs j)) (lcs : ∀ j, j < nc → cs j < 8) (hwd : ∀ j, j < nw → m 15 j = nI (wd j)) (lwd : ∀ j, j < nw → wd j < 20) : fX6_matchNow tl nc nw cd cs wd m 2 0 = (nI (nS tl m)) := show (it (lX6_matchNow_30 tl nc nw cd cs wd m) (it lX6_matchNow_8 (fX6_asTold tl nc nw cd cs wd m) 256) (nS tl m)) 2 0 = _ from (congrFun (fi_lX6_matchNow_30 tl nc nw cd cs wd m (it lX6_matchNow_8 (fX6_asTold tl nc nw cd cs wd m) 256) (nS tl m) 2 (by decide)) 0).trans ((congrFun (fi_lX6_matchNow_8  (fX6_asTold tl nc nw cd cs wd m) 256 2 (by decide)) 0).trans (gv_X6_asTold_2 m tl nc nw cd cs wd htl ltl hnc (by omega) hnw (by omega) hcd lcd hcs lcs hwd lwd))
theorem gv_X6_matchNow_6 (m : Mem)  (tl : Nat → Nat) (nc : Nat) (nw : Nat) (cd : Nat → Nat) (cs : Nat → Nat) (wd : Nat → Nat) (htl : ∀ t, t < 2 → m 0 t = nI (tl t)) (ltl : ∀ t, tl t ≤ 31) (hnc : m 11 0 = nI nc) (lnc : nc ≤ 8) (hnw : m 14 0 = nI nw) (lnw : nw ≤ 6) (hcd : ∀ j, j < nc → m 12 j = nI (cd j)) (lcd : ∀ j, j < nc → cd j < 20) (hcs : ∀ j, j < nc → m 13 j = nI (cs j)) (lcs : ∀ j, j < nc → cs j < 8) (hwd : ∀ j, j < nw → m 15 j = nI (wd j)) (lwd : ∀ j, j < nw → wd j < 20) : fX6_matchNow tl nc nw cd cs wd m 6 0 = (nI (nP tl m)) := show (it (lX6_matchNow_30 tl nc nw cd cs wd m) (it lX6_matchNow_8 (fX6_asTold tl nc nw cd cs wd m) 256) (nS tl m)) 6 0 = _ from (congrFun (fi_lX6_matchNow_30 tl nc nw cd cs wd m (it lX6_matchNow_8 (fX6_asTold tl nc nw cd cs wd m) 256) (nS tl m) 6 (by decide)) 0).trans ((congrFun (fi_lX6_matchNow_8  (fX6_asTold tl nc nw cd cs wd m) 256 6 (by decide)) 0).trans (gv_X6_asTold_6 m tl nc nw cd cs wd htl ltl hnc (by omega) hnw (by omega) hcd lcd hcs lcs hwd lwd))
set_option maxHeartbeats 4000000 in
set_option maxRecDepth 100000 in
theorem metX6_matchNow (l : Launch) (X : Mx) (m : Mem)  (tl : Nat → Nat) (nc : Nat) (nw : Nat) (cd : Nat → Nat) (cs : Nat → Nat) (wd : Nat → Nat) (htl : ∀ t, t < 2 → m 0 t = nI (tl t)) (ltl : ∀ t, tl t ≤ 31) (hnc : m 11 0 = nI nc) (lnc : nc ≤ 8) (hnw : m 14 0 = nI nw) (lnw : nw ≤ 6) (hcd : ∀ j, j < nc → m 12 j = nI (cd j)) (lcd : ∀ j, j < nc → cd j < 20) (hcs : ∀ j, j < nc → m 13 j = nI (cs j)) (lcs : ∀ j, j < nc → cs j < 8) (hwd : ∀ j, j < nw → m 15 j = nI (wd j)) (lwd : ∀ j, j < nw → wd j < 20) : Cn l yX6_matchNow (ws_ yX6_matchNow cX6_matchNow 7 (some .int)) 9 0 0 [.ref (mx_ad X 40)] (PicM X) (KM X) (mx_A X) m (fun rv_ w_ => rv_ = some (.int (rX6_matchNow tl nc nw cd cs wd m)) ∧ w_ = (fX6_matchNow tl nc nw cd cs wd m)) := by
  refine cn_i (own := RX6) rfl (Nat.le_of_ble_eq_true rfl) rfl (fun g hgl hA F hret => ?_)
  refine Wd.eql (lv' := [(0, .ref (mx_ad X 40))]) rfl ?_
  have hzP := lP tl m
  have hzS := lS tl m
  have hpw := pow_le (lP tl m)
  refine ro_aload_n F dX6_matchNow_0 0 rfl ?_
  refine mo_cV (rest := []) F hA (metX6_asTold (gx_l g) X m tl nc nw cd cs wd htl ltl hnc (by omega) hnw (by omega) hcd lcd hcs lcs hwd lwd) cwX6_201 hdX6_asTold rfl (Nat.le_of_ble_eq_true rfl) (Nat.le_of_ble_eq_true rfl) (Nat.le_refl _) (Nat.le_refl _) rfl (Nat.le_of_ble_eq_true rfl) dX6_matchNow_1 ?_
  refine ro_iconst (v := (nI 0)) F dX6_matchNow_4 (by decide) ?_
  refine ro_istore_n (lv' := [(0, .ref (mx_ad X 40)), (1, .int (nI 0))]) F dX6_matchNow_5 (Nat.le_of_ble_eq_true rfl) [1, 0] rfl ?_
  refine ro_iconst (v := (nI 0)) F dX6_matchNow_6 (by decide) ?_
  refine ro_istore_n (lv' := [(0, .ref (mx_ad X 40)), (1, .int (nI 0)), (2, .int (nI 0))]) F dX6_matchNow_7 (Nat.le_of_ble_eq_true rfl) [1, 2, 0] rfl ?_
  refine it_loop 256 lX6_matchNow_8 (fX6_asTold tl nc nw cd cs wd m) (fun (_ : Nat) (b8 : Mem) => ∀ f : Nat, f ≠ 28 → b8 f = (fX6_asTold tl nc nw cd cs wd m) f) (fun (i8 : Nat) (b8 : Mem) => Wd (PicM X) g 7 b8 0 0 8 [(0, .ref (mx_ad X 40)), (1, .int (nI 0)), (2, .int (nI i8))] []) (fun f _ => rfl) (fun i_ b_ _ hb f h28 => (fr_lX6_matchNow_8  i_ b_ f h28).trans (hb f h28)) (fun i8 b8 hi8 hf8 ih8 => ?_) (fun b8 hf8 he8 => ?_)
  · refine ro_iload_n F dX6_matchNow_8 2 rfl ?_
    refine ro_sipush (v := (nI 256)) F dX6_matchNow_9 (by decide) ?_
    refine ro_icmp_geN (tgt := 28) F dX6_matchNow_12 (by decide) (by omega) (by omega) (fun c12 => absurd c12 (by omega)) (fun c12 => ?_)
    refine ro_aload_n F dX6_matchNow_15 0 rfl ?_
    refine mo_gr F 28 (Nat.le_of_ble_eq_true rfl) (by decide) lkX6_65 rfl dX6_matchNow_16 ?_
    refine ro_iload_n F dX6_matchNow_19 2 rfl ?_
    refine ro_iconst (v := (nI 0)) F dX6_matchNow_20 (by decide) ?_
    refine mo_stN F hA 28 256 rfl (by decide) (by decide) rfl (by omega) dX6_matchNow_21 ?_
    refine ro_iincN (z := 1) (lv' := [(0, .ref (mx_ad X 40)), (1, .int (nI 0)), (2, .int (nI (i8 + 1)))]) F dX6_matchNow_22 2 rfl (Nat.le_of_ble_eq_true rfl) [1, 2, 0] rfl ?_
    refine ro_goto (tgt := 8) F dX6_matchNow_25 (by decide) ?_
    exact ih8
  subst he8
  refine ro_iload_n F dX6_matchNow_8 2 rfl ?_
  refine ro_sipush (v := (nI 256)) F dX6_matchNow_9 (by decide) ?_
  refine ro_icmp_geN (tgt := 28) F dX6_matchNow_12 (by decide) (by omega) (by omega) (fun c12 => ?_) (fun c12 => absurd c12 (by omega))
  refine ro_iconst (v := (nI 0)) F dX6_matchNow_28 (by decide) ?_
  refine ro_istore_n (lv' := [(0, .ref (mx_ad X 40)), (1, .int (nI 0)), (2, .int (nI 0))]) F dX6_matchNow_29 (Nat.le_of_ble_eq_true rfl) [1, 2, 0] rfl ?_
  refine it_loop (nS tl m) (lX6_matchNow_30 tl nc nw cd cs wd m) (it lX6_matchNow_8 (fX6_asTold tl nc nw cd cs wd m) 256) (fun (_ : Nat) (b30 : Mem) => ∀ f : Nat, f ≠ 28 → b30 f = (it lX6_matchNow_8 (fX6_asTold tl nc nw cd cs wd m) 256) f) (fun (i30 : Nat) (b30 : Mem) => Wd (PicM X) g 7 b30 0 0 30 [(0, .ref (mx_ad X 40)), (1, .int (nI 0)), (2, .int (nI i30))] []) (fun f _ => rfl) (fun i_ b_ _ hb f h28 => (fr_lX6_matchNow_30 tl nc nw cd cs wd m i_ b_ f h28).trans (hb f h28)) (fun i30 b30 hi30 hf30 ih30 => ?_) (fun b30 hf30 he30 => ?_)
  · refine ro_iload_n F dX6_matchNow_30 2 rfl ?_
    refine ro_aload_n F dX6_matchNow_31 0 rfl ?_
    have hz := lS tl m
    refine mo_gi F 2 (Nat.le_of_ble_eq_true rfl) rfl lkX6_122 rfl dX6_matchNow_32 ((congrFun (hf30 2 (by decide)) 0).trans ((congrFun (fi_lX6_matchNow_8  (fX6_asTold tl nc nw cd cs wd m) 256 2 (by decide)) 0).trans (gv_X6_asTold_2 m tl nc nw cd cs wd htl ltl hnc (by omega) hnw (by omega) hcd lcd hcs lcs hwd lwd))) ?_
    refine ro_icmp_geN (tgt := 191) F dX6_matchNow_35 (by decide) (by omega) (by omega) (fun c35 => absurd c35 (by omega)) (fun c35 => ?_)
    refine ro_iconst (v := (nI 1)) F dX6_matchNow_38 (by decide) ?_
    refine ro_aload_n F dX6_matchNow_39 0 rfl ?_
    have hz := lP tl m
    refine mo_gi F 6 (Nat.le_of_ble_eq_true rfl) rfl lkX6_125 rfl dX6_matchNow_40 ((congrFun (hf30 6 (by decide)) 0).trans ((congrFun (fi_lX6_matchNow_8  (fX6_asTold tl nc nw cd cs wd m) 256 6 (by decide)) 0).trans (gv_X6_asTold_6 m tl nc nw cd cs wd htl ltl hnc (by omega) hnw (by omega) hcd lcd hcs lcs hwd lwd))) ?_
    refine ro_ishl F dX6_matchNow_43 ?_
    refine ro_iconst (v := (nI 1)) F dX6_matchNow_44 (by decide) ?_
    refine ro_isub F dX6_matchNow_45 ?_
    refine ro_eqi (y := nI (2 ^ (nP tl m) - 1)) (shl1_sub (lP tl m)) ?_
    refine ro_istore_n (lv' := [(0, .ref (mx_ad X 40)), (1, .int (nI 0)), (2, .int (nI i30)), (3, .int (nI (2 ^ (nP tl m) - 1)))]) F dX6_matchNow_46 (Nat.le_of_ble_eq_true rfl) [1, 2, 3, 0] rfl ?_
    refine it_loop (2 ^ (nP tl m) - 1) (lX6_matchNow_47 tl nc nw cd cs wd m i30) b30 (fun (_ : Nat) (b47 : Mem) => ∀ f : Nat, f ≠ 28 → b47 f = b30 f) (fun (i47 : Nat) (b47 : Mem) => Wd (PicM X) g 7 b47 0 0 47 [(0, .ref (mx_ad X 40)), (1, .int (nI 0)), (2, .int (nI i30)), (3, .int (nI ((2 ^ (nP tl m) - 1) - i47)))] []) (fun f _ => rfl) (fun i_ b_ _ hb f h28 => (fr_lX6_matchNow_47 tl nc nw cd cs wd m i30 i_ b_ f h28).trans (hb f h28)) (fun i47 b47 hi47 hf47 ih47 => ?_) (fun b47 hf47 he47 => ?_)
    · refine ro_iload_n F dX6_matchNow_47 3 rfl ?_
      refine ro_if_leN (tgt := 185) F dX6_matchNow_48 (by decide) (by omega) (fun c48 => absurd c48 (by omega)) (fun c48 => ?_)
      refine ro_iconst (v := (nI 0)) F dX6_matchNow_51 (by decide) ?_
      refine ro_istore (lv' := [(0, .ref (mx_ad X 40)), (1, .int (nI 0)), (2, .int (nI i30)), (3, .int (nI ((2 ^ (nP tl m) - 1) - i47))), (4, .int (nI 0))]) F dX6_matchNow_52 (Nat.le_of_ble_eq_true rfl) [1, 2, 3, 4, 0] rfl ?_
      refine it_loop (nP tl m) (lX6_matchNow_54 tl nc nw cd cs wd m i30 i47) b47 (fun (_ : Nat) (b54 : Mem) => ∀ f : Nat, f ≠ 28 → b54 f = b47 f) (fun (i54 : Nat) (b54 : Mem) => Wd (PicM X) g 7 b54 0 0 54 [(0, .ref (mx_ad X 40)), (1, .int (nI 0)), (2, .int (nI i30)), (3, .int (nI ((2 ^ (nP tl m) - 1) - i47))), (4, .int (nI i54))] []) (fun f _ => rfl) (fun i_ b_ _ hb f h28 => (fr_lX6_matchNow_54 tl nc nw cd cs wd m i30 i47 i_ b_ f h28).trans (hb f h28)) (fun i54 b54 hi54 hf54 ih54 => ?_) (fun b54 hf54 he54 => ?_)
      · refine ro_iload F dX6_matchNow_54 4 rfl ?_
        refine ro_aload_n F dX6_matchNow_56 0 rfl ?_
        have hz := lP tl m
        refine mo_gi F 6 (Nat.le_of_ble_eq_true rfl) rfl lkX6_125 rfl dX6_matchNow_57 ((congrFun (hf54 6 (by decide)) 0).trans ((congrFun (hf47 6 (by decide)) 0).trans ((congrFun (hf30 6 (by decide)) 0).trans ((congrFun (fi_lX6_matchNow_8  (fX6_asTold tl nc nw cd cs wd m) 256 6 (by decide)) 0).trans (gv_X6_asTold_6 m tl nc nw cd cs wd htl ltl hnc (by omega) hnw (by omega) hcd lcd hcs lcs hwd lwd))))) ?_
        refine ro_icmp_geN (tgt := 179) F dX6_matchNow_60 (by decide) (by omega) (by omega) (fun c60 => absurd c60 (by omega)) (fun c60 => ?_)
        refine ro_iload_n F dX6_matchNow_63 3 rfl ?_
        refine ro_iload F dX6_matchNow_64 4 rfl ?_
        refine mo_cS (rest := []) F hA (metX6_isIn (gx_l g) X b54 (nI ((2 ^ (nP tl m) - 1) - i47)) (nI i54) ) cwX6_174 hdX6_isIn rfl (Nat.le_of_ble_eq_true rfl) (Nat.le_of_ble_eq_true rfl) (Nat.le_refl _) (Nat.le_refl _) rfl (Nat.le_of_ble_eq_true rfl) dX6_matchNow_66 ?_
        have J117_69 : Wd (PicM X) g 7 b54 0 0 117 [(0, .ref (mx_ad X 40)), (1, .int (nI 0)), (2, .int (nI i30)), (3, .int (nI ((2 ^ (nP tl m) - 1) - i47))), (4, .int (nI i54))] [.int (b2 (((((nI ((2 ^ (nP tl m) - 1) - i47)) >>> ((nI i54) &&& 31)) &&& (nI 1)) = (nI 1)) ∧ ((((fX6_asTold tl nc nw cd cs wd m) 8 i54) = ((fX6_asTold tl nc nw cd cs wd m) 5 i30)) ∧ (¬ (((nI 10) * ((fX6_asTold tl nc nw cd cs wd m) 7 i54)) < (((fX6_asTold tl nc nw cd cs wd m) 3 i30) * ((fX6_asTold tl nc nw cd cs wd m) 16 0)))))))] := by
          refine ro_istore (lv' := [(0, .ref (mx_ad X 40)), (1, .int (nI 0)), (2, .int (nI i30)), (3, .int (nI ((2 ^ (nP tl m) - 1) - i47))), (4, .int (nI i54)), (5, .int (b2 (((((nI ((2 ^ (nP tl m) - 1) - i47)) >>> ((nI i54) &&& 31)) &&& (nI 1)) = (nI 1)) ∧ ((((fX6_asTold tl nc nw cd cs wd m) 8 i54) = ((fX6_asTold tl nc nw cd cs wd m) 5 i30)) ∧ (¬ (((nI 10) * ((fX6_asTold tl nc nw cd cs wd m) 7 i54)) < (((fX6_asTold tl nc nw cd cs wd m) 3 i30) * ((fX6_asTold tl nc nw cd cs wd m) 16 0))))))))]) F dX6_matchNow_117 (Nat.le_of_ble_eq_true rfl) [1, 2, 3, 4, 5, 0] rfl ?_
          refine ro_iload F dX6_matchNow_119 5 rfl ?_
          have J143_121 : Wd (PicM X) g 7 b54 0 0 143 [(0, .ref (mx_ad X 40)), (1, .int (nI 0)), (2, .int (nI i30)), (3, .int (nI ((2 ^ (nP tl m) - 1) - i47))), (4, .int (nI i54))] [.int (if ((((nI ((2 ^ (nP tl m) - 1) - i47)) >>> ((nI i54) &&& 31)) &&& (nI 1)) = (nI 1)) ∧ ((((fX6_asTold tl nc nw cd cs wd m) 8 i54) = ((fX6_asTold tl nc nw cd cs wd m) 5 i30)) ∧ (¬ (((nI 10) * ((fX6_asTold tl nc nw cd cs wd m) 7 i54)) < (((fX6_asTold tl nc nw cd cs wd m) 3 i30) * ((fX6_asTold tl nc nw cd cs wd m) 16 0))))) then ((b54 28 (2 ^ (nP tl m) - 1 - i47 - 2 ^ i54)) + (nI 1)) else (nI 0))] := by
            refine ro_istore (lv' := [(0, .ref (mx_ad X 40)), (1, .int (nI 0)), (2, .int (nI i30)), (3, .int (nI ((2 ^ (nP tl m) - 1) - i47))), (4, .int (nI i54)), (6, .int (if ((((nI ((2 ^ (nP tl m) - 1) - i47)) >>> ((nI i54) &&& 31)) &&& (nI 1)) = (nI 1)) ∧ ((((fX6_asTold tl nc nw cd cs wd m) 8 i54) = ((fX6_asTold tl nc nw cd cs wd m) 5 i30)) ∧ (¬ (((nI 10) * ((fX6_asTold tl nc nw cd cs wd m) 7 i54)) < (((fX6_asTold tl nc nw cd cs wd m) 3 i30) * ((fX6_asTold tl nc nw cd cs wd m) 16 0))))) then ((b54 28 (2 ^ (nP tl m) - 1 - i47 - 2 ^ i54)) + (nI 1)) else (nI 0)))]) F dX6_matchNow_143 (Nat.le_of_ble_eq_true rfl) [1, 2, 3, 4, 5, 0] rfl ?_
            refine ro_aload_n F dX6_matchNow_145 0 rfl ?_
            refine mo_gr F 28 (Nat.le_of_ble_eq_true rfl) (by decide) lkX6_65 rfl dX6_matchNow_146 ?_
            refine ro_iload_n F dX6_matchNow_149 3 rfl ?_
            refine ro_iload F dX6_matchNow_150 5 rfl ?_
            refine ro_aload_n F dX6_matchNow_152 0 rfl ?_
            refine mo_gr F 28 (Nat.le_of_ble_eq_true rfl) (by decide) lkX6_65 rfl dX6_matchNow_153 ?_
            refine ro_iload_n F dX6_matchNow_156 3 rfl ?_
            refine mo_ldN F 28 256 rfl (by decide) (by decide) rfl (by omega) dX6_matchNow_157 rfl ?_
            have J172_158 : Wd (PicM X) g 7 b54 0 0 172 [(0, .ref (mx_ad X 40)), (1, .int (nI 0)), (2, .int (nI i30)), (3, .int (nI ((2 ^ (nP tl m) - 1) - i47))), (4, .int (nI i54))] [.int (if (if ((((nI ((2 ^ (nP tl m) - 1) - i47)) >>> ((nI i54) &&& 31)) &&& (nI 1)) = (nI 1)) ∧ ((((fX6_asTold tl nc nw cd cs wd m) 8 i54) = ((fX6_asTold tl nc nw cd cs wd m) 5 i30)) ∧ (¬ (((nI 10) * ((fX6_asTold tl nc nw cd cs wd m) 7 i54)) < (((fX6_asTold tl nc nw cd cs wd m) 3 i30) * ((fX6_asTold tl nc nw cd cs wd m) 16 0))))) then ((b54 28 (2 ^ (nP tl m) - 1 - i47 - 2 ^ i54)) + (nI 1)) else (nI 0)) ≤ (b54 28 ((2 ^ (nP tl m) - 1) - i47)) then (b54 28 ((2 ^ (nP tl m) - 1) - i47)) else (if ((((nI ((2 ^ (nP tl m) - 1) - i47)) >>> ((nI i54) &&& 31)) &&& (nI 1)) = (nI 1)) ∧ ((((fX6_asTold tl nc nw cd cs wd m) 8 i54) = ((fX6_asTold tl nc nw cd cs wd m) 5 i30)) ∧ (¬ (((nI 10) * ((fX6_asTold tl nc nw cd cs wd m) 7 i54)) < (((fX6_asTold tl nc nw cd cs wd m) 3 i30) * ((fX6_asTold tl nc nw cd cs wd m) 16 0))))) then ((b54 28 (2 ^ (nP tl m) - 1 - i47 - 2 ^ i54)) + (nI 1)) else (nI 0))), .int (nI ((2 ^ (nP tl m) - 1) - i47)), .ref (mx_ad X 28)] := by
              refine mo_stN F hA 28 256 rfl (by decide) (by decide) rfl (by omega) dX6_matchNow_172 ?_
              refine ro_iincN (z := 1) (lv' := [(0, .ref (mx_ad X 40)), (1, .int (nI 0)), (2, .int (nI i30)), (3, .int (nI ((2 ^ (nP tl m) - 1) - i47))), (4, .int (nI (i54 + 1)))]) F dX6_matchNow_173 4 rfl (Nat.le_of_ble_eq_true rfl) [1, 2, 3, 4, 0] rfl ?_
              refine ro_goto (tgt := 54) F dX6_matchNow_176 (by decide) ?_
              exact ih54
            refine ro_icmp_le (tgt := 166) F dX6_matchNow_158 (by decide) (fun c158 => ?_) (fun c158 => ?_)
            · refine ro_aload_n F dX6_matchNow_166 0 rfl ?_
              refine mo_gr F 28 (Nat.le_of_ble_eq_true rfl) (by decide) lkX6_65 rfl dX6_matchNow_167 ?_
              refine ro_iload_n F dX6_matchNow_170 3 rfl ?_
              refine mo_ldN F 28 256 rfl (by decide) (by decide) rfl (by omega) dX6_matchNow_171 rfl ?_
              exact Wd.sub (lv' := [(0, .ref (mx_ad X 40)), (1, .int (nI 0)), (2, .int (nI i30)), (3, .int (nI ((2 ^ (nP tl m) - 1) - i47))), (4, .int (nI i54))]) [0, 1, 2, 3, 4] rfl <| Wd.to J172_158 rfl rfl (congrArg (fun z => ([Value.int z, .int (nI ((2 ^ (nP tl m) - 1) - i47)), .ref (mx_ad X 28)] : List Value)) (by simp only [if_pos c158]))
            · refine ro_iload F dX6_matchNow_161 5 rfl ?_
              refine ro_goto (tgt := 172) F dX6_matchNow_163 (by decide) ?_
              exact Wd.sub (lv' := [(0, .ref (mx_ad X 40)), (1, .int (nI 0)), (2, .int (nI i30)), (3, .int (nI ((2 ^ (nP tl m) - 1) - i47))), (4, .int (nI i54))]) [0, 1, 2, 3, 4] rfl <| Wd.to J172_158 rfl rfl (congrArg (fun z => ([Value.int z, .int (nI ((2 ^ (nP tl m) - 1) - i47)), .ref (mx_ad X 28)] : List Value)) (by simp only [if_neg c158]))
          refine ro_if_eqB (tgt := 142) F dX6_matchNow_121 (by decide) (fun c121 => ?_) (fun c121 => ?_)
          · refine ro_iconst (v := (nI 0)) F dX6_matchNow_142 (by decide) ?_
            exact Wd.sub (lv' := [(0, .ref (mx_ad X 40)), (1, .int (nI 0)), (2, .int (nI i30)), (3, .int (nI ((2 ^ (nP tl m) - 1) - i47))), (4, .int (nI i54))]) [0, 1, 2, 3, 4] rfl <| Wd.to J143_121 rfl rfl (congrArg (fun z => ([Value.int z] : List Value)) (by simp only [if_neg c121]))
          · refine ro_aload_n F dX6_matchNow_124 0 rfl ?_
            refine mo_gr F 28 (Nat.le_of_ble_eq_true rfl) (by decide) lkX6_65 rfl dX6_matchNow_125 ?_
            refine ro_iload_n F dX6_matchNow_128 3 rfl ?_
            refine ro_iconst (v := (nI 1)) F dX6_matchNow_129 (by decide) ?_
            refine ro_iload F dX6_matchNow_130 4 rfl ?_
            refine ro_ishl F dX6_matchNow_132 ?_
            refine ro_iconst (v := (-1)) F dX6_matchNow_133 (by decide) ?_
            refine ro_ixor F dX6_matchNow_134 ?_
            refine ro_iand F dX6_matchNow_135 ?_
            have hq5 : 2 ^ (nP tl m) - 1 - i47 - 2 ^ i54 < 256 := Nat.lt_of_le_of_lt (Nat.sub_le _ _) (by omega)
            refine ro_eqi (y := nI (2 ^ (nP tl m) - 1 - i47 - 2 ^ i54)) (clr_bit (by omega) (by omega) c121.1) ?_
            refine mo_ldN F 28 256 rfl (by decide) (by decide) rfl (by omega) dX6_matchNow_136 rfl ?_
            refine ro_iconst (v := (nI 1)) F dX6_matchNow_137 (by decide) ?_
            refine ro_iadd F dX6_matchNow_138 ?_
            refine ro_goto (tgt := 143) F dX6_matchNow_139 (by decide) ?_
            exact Wd.sub (lv' := [(0, .ref (mx_ad X 40)), (1, .int (nI 0)), (2, .int (nI i30)), (3, .int (nI ((2 ^ (nP tl m) - 1) - i47))), (4, .int (nI i54))]) [0, 1, 2, 3, 4] rfl <| Wd.to J143_121 rfl rfl (congrArg (fun z => ([Value.int z] : List Value)) (by simp only [if_pos c121]))
        refine ro_if_eqB (tgt := 116) F dX6_matchNow_69 (by decide) (fun c69 => ?_) (fun c69 => ?_)
        · refine ro_iconst (v := (nI 0)) F dX6_matchNow_116 (by decide) ?_
          exact Wd.to J117_69 rfl rfl (congrArg (fun z => ([Value.int z] : List Value)) ((b2_f (by simp [c69])).symm))
        · refine ro_aload_n F dX6_matchNow_72 0 rfl ?_
          refine mo_gr F 8 (Nat.le_of_ble_eq_true rfl) (by decide) lkX6_28 rfl dX6_matchNow_73 ?_
          refine ro_iload F dX6_matchNow_76 4 rfl ?_
          refine mo_ldN F 8 9 rfl (by decide) (by decide) rfl (by omega) dX6_matchNow_78 ((congrFun (hf54 8 (by decide)) i54).trans ((congrFun (hf47 8 (by decide)) i54).trans ((congrFun (hf30 8 (by decide)) i54).trans (congrFun (fi_lX6_matchNow_8  (fX6_asTold tl nc nw cd cs wd m) 256 8 (by decide)) i54)))) ?_
          refine ro_aload_n F dX6_matchNow_79 0 rfl ?_
          refine mo_gr F 5 (Nat.le_of_ble_eq_true rfl) (by decide) lkX6_22 rfl dX6_matchNow_80 ?_
          refine ro_iload_n F dX6_matchNow_83 2 rfl ?_
          refine mo_ldN F 5 9 rfl (by decide) (by decide) rfl (by omega) dX6_matchNow_84 ((congrFun (hf54 5 (by decide)) i30).trans ((congrFun (hf47 5 (by decide)) i30).trans ((congrFun (hf30 5 (by decide)) i30).trans (congrFun (fi_lX6_matchNow_8  (fX6_asTold tl nc nw cd cs wd m) 256 5 (by decide)) i30)))) ?_
          refine ro_icmp_ne (tgt := 116) F dX6_matchNow_85 (by decide) (fun c85 => ?_) (fun c85 => ?_)
          · refine ro_iconst (v := (nI 0)) F dX6_matchNow_116 (by decide) ?_
            exact Wd.to J117_69 rfl rfl (congrArg (fun z => ([Value.int z] : List Value)) ((b2_f (by simp [c69, c85])).symm))
          · refine ro_bipush (v := (nI 10)) F dX6_matchNow_88 (by decide) ?_
            refine ro_aload_n F dX6_matchNow_90 0 rfl ?_
            refine mo_gr F 7 (Nat.le_of_ble_eq_true rfl) (by decide) lkX6_25 rfl dX6_matchNow_91 ?_
            refine ro_iload F dX6_matchNow_94 4 rfl ?_
            refine mo_ldN F 7 9 rfl (by decide) (by decide) rfl (by omega) dX6_matchNow_96 ((congrFun (hf54 7 (by decide)) i54).trans ((congrFun (hf47 7 (by decide)) i54).trans ((congrFun (hf30 7 (by decide)) i54).trans (congrFun (fi_lX6_matchNow_8  (fX6_asTold tl nc nw cd cs wd m) 256 7 (by decide)) i54)))) ?_
            refine ro_imul F dX6_matchNow_97 ?_
            refine ro_aload_n F dX6_matchNow_98 0 rfl ?_
            refine mo_gr F 3 (Nat.le_of_ble_eq_true rfl) (by decide) lkX6_16 rfl dX6_matchNow_99 ?_
            refine ro_iload_n F dX6_matchNow_102 2 rfl ?_
            refine mo_ldN F 3 9 rfl (by decide) (by decide) rfl (by omega) dX6_matchNow_103 ((congrFun (hf54 3 (by decide)) i30).trans ((congrFun (hf47 3 (by decide)) i30).trans ((congrFun (hf30 3 (by decide)) i30).trans (congrFun (fi_lX6_matchNow_8  (fX6_asTold tl nc nw cd cs wd m) 256 3 (by decide)) i30)))) ?_
            refine ro_aload_n F dX6_matchNow_104 0 rfl ?_
            refine mo_gi F 16 (Nat.le_of_ble_eq_true rfl) rfl lkX6_178 rfl dX6_matchNow_105 ((congrFun (hf54 16 (by decide)) 0).trans ((congrFun (hf47 16 (by decide)) 0).trans ((congrFun (hf30 16 (by decide)) 0).trans (congrFun (fi_lX6_matchNow_8  (fX6_asTold tl nc nw cd cs wd m) 256 16 (by decide)) 0)))) ?_
            refine ro_imul F dX6_matchNow_108 ?_
            refine ro_icmp_lt (tgt := 116) F dX6_matchNow_109 (by decide) (fun c109 => ?_) (fun c109 => ?_)
            · refine ro_iconst (v := (nI 0)) F dX6_matchNow_116 (by decide) ?_
              exact Wd.to J117_69 rfl rfl (congrArg (fun z => ([Value.int z] : List Value)) ((b2_f (by simp [c69, c85, c109])).symm))
            · refine ro_iconst (v := (nI 1)) F dX6_matchNow_112 (by decide) ?_
              refine ro_goto (tgt := 117) F dX6_matchNow_113 (by decide) ?_
              exact Wd.to J117_69 rfl rfl (congrArg (fun z => ([Value.int z] : List Value)) ((b2_t (by simp [c69, c85, c109])).symm))
      subst he54
      refine ro_iload F dX6_matchNow_54 4 rfl ?_
      refine ro_aload_n F dX6_matchNow_56 0 rfl ?_
      have hz := lP tl m
      refine mo_gi F 6 (Nat.le_of_ble_eq_true rfl) rfl lkX6_125 rfl dX6_matchNow_57 ((congrFun (fi_lX6_matchNow_54 tl nc nw cd cs wd m i30 i47 b47 (nP tl m) 6 (by decide)) 0).trans ((congrFun (hf47 6 (by decide)) 0).trans ((congrFun (hf30 6 (by decide)) 0).trans ((congrFun (fi_lX6_matchNow_8  (fX6_asTold tl nc nw cd cs wd m) 256 6 (by decide)) 0).trans (gv_X6_asTold_6 m tl nc nw cd cs wd htl ltl hnc (by omega) hnw (by omega) hcd lcd hcs lcs hwd lwd))))) ?_
      refine ro_icmp_geN (tgt := 179) F dX6_matchNow_60 (by decide) (by omega) (by omega) (fun c60 => ?_) (fun c60 => absurd c60 (by omega))
      refine ro_idecN (b := (2 ^ (nP tl m) - 1) - (i47 + 1)) (lv' := [(0, .ref (mx_ad X 40)), (1, .int (nI 0)), (2, .int (nI i30)), (3, .int (nI ((2 ^ (nP tl m) - 1) - (i47 + 1)))), (4, .int (nI (nP tl m)))]) F dX6_matchNow_179 3 rfl (by omega) (Nat.le_of_ble_eq_true rfl) [1, 2, 3, 0, 4] rfl ?_
      refine ro_goto (tgt := 47) F dX6_matchNow_182 (by decide) ?_
      exact Wd.sub (lv' := [(0, .ref (mx_ad X 40)), (1, .int (nI 0)), (2, .int (nI i30)), (3, .int (nI ((2 ^ (nP tl m) - 1) - (i47 + 1))))]) [0, 1, 2, 3] rfl <| ih47
    subst he47
    refine ro_iload_n F dX6_matchNow_47 3 rfl ?_
    refine ro_if_leN (tgt := 185) F dX6_matchNow_48 (by decide) (by omega) (fun c48 => ?_) (fun c48 => absurd c48 (by omega))
    refine ro_iincN (z := 1) (lv' := [(0, .ref (mx_ad X 40)), (1, .int (nI 0)), (2, .int (nI (i30 + 1))), (3, .int (nI ((2 ^ (nP tl m) - 1) - (2 ^ (nP tl m) - 1))))]) F dX6_matchNow_185 2 rfl (Nat.le_of_ble_eq_true rfl) [1, 2, 0, 3] rfl ?_
    refine ro_goto (tgt := 30) F dX6_matchNow_188 (by decide) ?_
    exact Wd.sub (lv' := [(0, .ref (mx_ad X 40)), (1, .int (nI 0)), (2, .int (nI (i30 + 1)))]) [0, 1, 2] rfl <| ih30
  subst he30
  refine ro_iload_n F dX6_matchNow_30 2 rfl ?_
  refine ro_aload_n F dX6_matchNow_31 0 rfl ?_
  have hz := lS tl m
  refine mo_gi F 2 (Nat.le_of_ble_eq_true rfl) rfl lkX6_122 rfl dX6_matchNow_32 ((congrFun (fi_lX6_matchNow_30 tl nc nw cd cs wd m (it lX6_matchNow_8 (fX6_asTold tl nc nw cd cs wd m) 256) (nS tl m) 2 (by decide)) 0).trans ((congrFun (fi_lX6_matchNow_8  (fX6_asTold tl nc nw cd cs wd m) 256 2 (by decide)) 0).trans (gv_X6_asTold_2 m tl nc nw cd cs wd htl ltl hnc (by omega) hnw (by omega) hcd lcd hcs lcs hwd lwd))) ?_
  refine ro_icmp_geN (tgt := 191) F dX6_matchNow_35 (by decide) (by omega) (by omega) (fun c35 => ?_) (fun c35 => absurd c35 (by omega))
  refine ro_iconst (v := (nI 0)) F dX6_matchNow_191 (by decide) ?_
  refine ro_istore_n (lv' := [(0, .ref (mx_ad X 40)), (1, .int (nI 0)), (2, .int (nI 0))]) F dX6_matchNow_192 (Nat.le_of_ble_eq_true rfl) [1, 2, 0] rfl ?_
  refine it_loop (2 ^ (nP tl m)) (lX6_matchNow_193 tl nc nw cd cs wd m) (nI 0) (fun _ _ => True) (fun (i193 : Nat) (b193 : Int32) => Wd (PicM X) g 7 (it (lX6_matchNow_30 tl nc nw cd cs wd m) (it lX6_matchNow_8 (fX6_asTold tl nc nw cd cs wd m) 256) (nS tl m)) 0 0 193 [(0, .ref (mx_ad X 40)), (1, .int b193), (2, .int (nI i193))] []) trivial (fun _ _ _ _ => trivial) (fun i193 b193 hi193 hf193 ih193 => ?_) (fun b193 hf193 he193 => ?_)
  · refine ro_iload_n F dX6_matchNow_193 2 rfl ?_
    refine ro_iconst (v := (nI 1)) F dX6_matchNow_194 (by decide) ?_
    refine ro_aload_n F dX6_matchNow_195 0 rfl ?_
    have hz := lP tl m
    refine mo_gi F 6 (Nat.le_of_ble_eq_true rfl) rfl lkX6_125 rfl dX6_matchNow_196 ((congrFun (fi_lX6_matchNow_30 tl nc nw cd cs wd m (it lX6_matchNow_8 (fX6_asTold tl nc nw cd cs wd m) 256) (nS tl m) 6 (by decide)) 0).trans ((congrFun (fi_lX6_matchNow_8  (fX6_asTold tl nc nw cd cs wd m) 256 6 (by decide)) 0).trans (gv_X6_asTold_6 m tl nc nw cd cs wd htl ltl hnc (by omega) hnw (by omega) hcd lcd hcs lcs hwd lwd))) ?_
    refine ro_ishl F dX6_matchNow_199 ?_
    refine ro_eqi (y := nI (2 ^ (nP tl m))) (shl1_pow (lP tl m)) ?_
    refine ro_icmp_geN (tgt := 230) F dX6_matchNow_200 (by decide) (by omega) (by omega) (fun c200 => absurd c200 (by omega)) (fun c200 => ?_)
    refine ro_aload_n F dX6_matchNow_203 0 rfl ?_
    refine mo_gr F 28 (Nat.le_of_ble_eq_true rfl) (by decide) lkX6_65 rfl dX6_matchNow_204 ?_
    refine ro_iload_n F dX6_matchNow_207 2 rfl ?_
    refine mo_ldN F 28 256 rfl (by decide) (by decide) rfl (by omega) dX6_matchNow_208 rfl ?_
    refine ro_iload_n F dX6_matchNow_209 1 rfl ?_
    have J223_210 : Wd (PicM X) g 7 (it (lX6_matchNow_30 tl nc nw cd cs wd m) (it lX6_matchNow_8 (fX6_asTold tl nc nw cd cs wd m) 256) (nS tl m)) 0 0 223 [(0, .ref (mx_ad X 40)), (2, .int (nI i193))] [.int (if ((it (lX6_matchNow_30 tl nc nw cd cs wd m) (it lX6_matchNow_8 (fX6_asTold tl nc nw cd cs wd m) 256) (nS tl m)) 28 i193) ≤ b193 then b193 else ((it (lX6_matchNow_30 tl nc nw cd cs wd m) (it lX6_matchNow_8 (fX6_asTold tl nc nw cd cs wd m) 256) (nS tl m)) 28 i193))] := by
      refine ro_istore_n (lv' := [(0, .ref (mx_ad X 40)), (1, .int (if ((it (lX6_matchNow_30 tl nc nw cd cs wd m) (it lX6_matchNow_8 (fX6_asTold tl nc nw cd cs wd m) 256) (nS tl m)) 28 i193) ≤ b193 then b193 else ((it (lX6_matchNow_30 tl nc nw cd cs wd m) (it lX6_matchNow_8 (fX6_asTold tl nc nw cd cs wd m) 256) (nS tl m)) 28 i193))), (2, .int (nI i193))]) F dX6_matchNow_223 (Nat.le_of_ble_eq_true rfl) [1, 0, 2] rfl ?_
      refine ro_iincN (z := 1) (lv' := [(0, .ref (mx_ad X 40)), (1, .int (if ((it (lX6_matchNow_30 tl nc nw cd cs wd m) (it lX6_matchNow_8 (fX6_asTold tl nc nw cd cs wd m) 256) (nS tl m)) 28 i193) ≤ b193 then b193 else ((it (lX6_matchNow_30 tl nc nw cd cs wd m) (it lX6_matchNow_8 (fX6_asTold tl nc nw cd cs wd m) 256) (nS tl m)) 28 i193))), (2, .int (nI (i193 + 1)))]) F dX6_matchNow_224 2 rfl (Nat.le_of_ble_eq_true rfl) [1, 2, 0] rfl ?_
      refine ro_goto (tgt := 193) F dX6_matchNow_227 (by decide) ?_
      exact ih193
    refine ro_icmp_le (tgt := 222) F dX6_matchNow_210 (by decide) (fun c210 => ?_) (fun c210 => ?_)
    · refine ro_iload_n F dX6_matchNow_222 1 rfl ?_
      exact Wd.sub (lv' := [(0, .ref (mx_ad X 40)), (2, .int (nI i193))]) [0, 2] rfl <| Wd.to J223_210 rfl rfl (congrArg (fun z => ([Value.int z] : List Value)) (by simp only [if_pos c210]))
    · refine ro_aload_n F dX6_matchNow_213 0 rfl ?_
      refine mo_gr F 28 (Nat.le_of_ble_eq_true rfl) (by decide) lkX6_65 rfl dX6_matchNow_214 ?_
      refine ro_iload_n F dX6_matchNow_217 2 rfl ?_
      refine mo_ldN F 28 256 rfl (by decide) (by decide) rfl (by omega) dX6_matchNow_218 rfl ?_
      refine ro_goto (tgt := 223) F dX6_matchNow_219 (by decide) ?_
      exact Wd.sub (lv' := [(0, .ref (mx_ad X 40)), (2, .int (nI i193))]) [0, 2] rfl <| Wd.to J223_210 rfl rfl (congrArg (fun z => ([Value.int z] : List Value)) (by simp only [if_neg c210]))
  subst he193
  refine ro_iload_n F dX6_matchNow_193 2 rfl ?_
  refine ro_iconst (v := (nI 1)) F dX6_matchNow_194 (by decide) ?_
  refine ro_aload_n F dX6_matchNow_195 0 rfl ?_
  have hz := lP tl m
  refine mo_gi F 6 (Nat.le_of_ble_eq_true rfl) rfl lkX6_125 rfl dX6_matchNow_196 ((congrFun (fi_lX6_matchNow_30 tl nc nw cd cs wd m (it lX6_matchNow_8 (fX6_asTold tl nc nw cd cs wd m) 256) (nS tl m) 6 (by decide)) 0).trans ((congrFun (fi_lX6_matchNow_8  (fX6_asTold tl nc nw cd cs wd m) 256 6 (by decide)) 0).trans (gv_X6_asTold_6 m tl nc nw cd cs wd htl ltl hnc (by omega) hnw (by omega) hcd lcd hcs lcs hwd lwd))) ?_
  refine ro_ishl F dX6_matchNow_199 ?_
  refine ro_eqi (y := nI (2 ^ (nP tl m))) (shl1_pow (lP tl m)) ?_
  refine ro_icmp_geN (tgt := 230) F dX6_matchNow_200 (by decide) (by omega) (by omega) (fun c200 => ?_) (fun c200 => absurd c200 (by omega))
  refine ro_iload_n F dX6_matchNow_230 1 rfl ?_
  exact hret _ _ _ _ _ _ (Nat.le_refl _) (Nat.le_refl _) dX6_matchNow_231 rfl ⟨congrArg (fun z => some (Value.int z)) (rfl), rfl⟩
noncomputable def rX6_match (tl : Nat → Nat) (nc : Nat) (nw : Nat) (cd : Nat → Nat) (cs : Nat → Nat) (wd : Nat → Nat) (m : Mem) : Int32 := (rX6_matchNow tl nc nw cd cs wd m)
noncomputable def fX6_match (tl : Nat → Nat) (nc : Nat) (nw : Nat) (cd : Nat → Nat) (cs : Nat → Nat) (wd : Nat → Nat) (m : Mem) : Mem := (fX6_matchNow tl nc nw cd cs wd m)
theorem fr_fX6_match (tl : Nat → Nat) (nc : Nat) (nw : Nat) (cd : Nat → Nat) (cs : Nat → Nat) (wd : Nat → Nat) (m : Mem) (f : Nat) (h2 : f ≠ 2) (h3 : f ≠ 3) (h4 : f ≠ 4) (h5 : f ≠ 5) (h6 : f ≠ 6) (h7 : f ≠ 7) (h8 : f ≠ 8) (h16 : f ≠ 16) (h17 : f ≠ 17) (h18 : f ≠ 18) (h28 : f ≠ 28) : fX6_match tl nc nw cd cs wd m f = m f := (fr_fX6_matchNow tl nc nw cd cs wd m f h2 h3 h4 h5 h6 h7 h8 h16 h17 h18 h28).trans (rfl)
set_option maxHeartbeats 4000000 in
set_option maxRecDepth 100000 in
theorem metX6_match (l : Launch) (X : Mx) (m : Mem)  (tl : Nat → Nat) (nc : Nat) (nw : Nat) (cd : Nat → Nat) (cs : Nat → Nat) (wd : Nat → Nat) (htl : ∀ t, t < 2 → m 0 t = nI (tl t)) (ltl : ∀ t, tl t ≤ 31) (hnc : m 11 0 = nI nc) (lnc : nc ≤ 8) (hnw : m 14 0 = nI nw) (lnw : nw ≤ 6) (hcd : ∀ j, j < nc → m 12 j = nI (cd j)) (lcd : ∀ j, j < nc → cd j < 20) (hcs : ∀ j, j < nc → m 13 j = nI (cs j)) (lcs : ∀ j, j < nc → cs j < 8) (hwd : ∀ j, j < nw → m 15 j = nI (wd j)) (lwd : ∀ j, j < nw → wd j < 20) : Cn l yX6_match (ws_ yX6_match cX6_match 1 (some .int)) 10 0 0 [.ref (mx_ad X 40)] (PicM X) (KM X) (mx_A X) m (fun rv_ w_ => rv_ = some (.int (rX6_match tl nc nw cd cs wd m)) ∧ w_ = (fX6_match tl nc nw cd cs wd m)) := by
  refine cn_i (own := RX6) rfl (Nat.le_of_ble_eq_true rfl) rfl (fun g hgl hA F hret => ?_)
  refine Wd.eql (lv' := [(0, .ref (mx_ad X 40))]) rfl ?_
  refine ro_aload_n F dX6_match_0 0 rfl ?_
  refine mo_cV (rest := []) F hA (metX6_matchNow (gx_l g) X m tl nc nw cd cs wd htl ltl hnc (by omega) hnw (by omega) hcd lcd hcs lcs hwd lwd) cwX6_245 hdX6_matchNow rfl (Nat.le_of_ble_eq_true rfl) (Nat.le_of_ble_eq_true rfl) (Nat.le_refl _) (Nat.le_refl _) rfl (Nat.le_of_ble_eq_true rfl) dX6_match_1 ?_
  exact hret _ _ _ _ _ _ (Nat.le_refl _) (Nat.le_refl _) dX6_match_4 rfl ⟨congrArg (fun z => some (Value.int z)) (rfl), rfl⟩
noncomputable def lX6_termOf_p_14 (tl : Nat → Nat) (m : Mem) (i14 : Nat) (b14 : Mem × Int32) : Mem × Int32 := ((m2 b14.1 17 ((20 * (((((1103515245) * b14.2) + (nI 12345)).toUInt32 >>> ((nI 16).toUInt32 &&& Int32.toUInt32 31)).toInt32.toNatClampNeg % (nS tl m))) + i14) (nI 1)), (((1103515245) * b14.2) + (nI 12345)))
theorem fr_lX6_termOf_p_14 (tl : Nat → Nat) (m : Mem) (i14 : Nat) (b14 : Mem × Int32) (f : Nat) (h17 : f ≠ 17) : (lX6_termOf_p_14 tl m i14 b14).1 f = b14.1 f := (m2_ff _ _ h17).trans (rfl)
theorem fi_lX6_termOf_p_14 (tl : Nat → Nat) (m : Mem) (b14 : Mem × Int32) (n_ : Nat) (f : Nat) (h17 : f ≠ 17) : (it (lX6_termOf_p_14 tl m) b14 n_).1 f = b14.1 f := it_fr1 (fun i_ b_ => fr_lX6_termOf_p_14 tl m i_ b_ f h17) n_
noncomputable def rX6_termOf_p (seed : Int32) (n : Nat) (what : Int32) (tl : Nat → Nat) (nc : Nat) (nw : Nat) (cd : Nat → Nat) (cs : Nat → Nat) (wd : Nat → Nat) (m : Mem) : Int32 := (if what = 0 then (rX6_allOwed 19 (nS tl m) (fX6_runs (nP tl m) (nS tl m) (it (lX6_termOf_p_14 tl m) ((fX6_noCalls (fX6_asTold tl nc nw cd cs wd m)), seed) n).1)) else ((fX6_runs (nP tl m) (nS tl m) (it (lX6_termOf_p_14 tl m) ((fX6_noCalls (fX6_asTold tl nc nw cd cs wd m)), seed) n).1) 25 0))
noncomputable def fX6_termOf_p (seed : Int32) (n : Nat) (tl : Nat → Nat) (nc : Nat) (nw : Nat) (cd : Nat → Nat) (cs : Nat → Nat) (wd : Nat → Nat) (m : Mem) : Mem := (fX6_runs (nP tl m) (nS tl m) (it (lX6_termOf_p_14 tl m) ((fX6_noCalls (fX6_asTold tl nc nw cd cs wd m)), seed) n).1)
theorem fr_fX6_termOf_p (seed : Int32) (n : Nat) (tl : Nat → Nat) (nc : Nat) (nw : Nat) (cd : Nat → Nat) (cs : Nat → Nat) (wd : Nat → Nat) (m : Mem) (f : Nat) (h2 : f ≠ 2) (h3 : f ≠ 3) (h4 : f ≠ 4) (h5 : f ≠ 5) (h6 : f ≠ 6) (h7 : f ≠ 7) (h8 : f ≠ 8) (h16 : f ≠ 16) (h17 : f ≠ 17) (h18 : f ≠ 18) (h19 : f ≠ 19) (h20 : f ≠ 20) (h21 : f ≠ 21) (h22 : f ≠ 22) (h23 : f ≠ 23) (h24 : f ≠ 24) (h25 : f ≠ 25) (h26 : f ≠ 26) (h27 : f ≠ 27) : fX6_termOf_p seed n tl nc nw cd cs wd m f = m f := (fr_fX6_runs (nP tl m) (nS tl m) (it (lX6_termOf_p_14 tl m) ((fX6_noCalls (fX6_asTold tl nc nw cd cs wd m)), seed) n).1 f h19 h20 h21 h22 h23 h24 h25 h26 h27).trans ((show (it (lX6_termOf_p_14 tl m) ((fX6_noCalls (fX6_asTold tl nc nw cd cs wd m)), seed) n).1 f = (fX6_noCalls (fX6_asTold tl nc nw cd cs wd m)) f from fi_lX6_termOf_p_14 tl m ((fX6_noCalls (fX6_asTold tl nc nw cd cs wd m)), seed) n f h17).trans ((fr_fX6_noCalls  (fX6_asTold tl nc nw cd cs wd m) f h17).trans ((fr_fX6_asTold tl nc nw cd cs wd m f h2 h3 h4 h5 h6 h7 h8 h16 h17 h18).trans (rfl))))
theorem gv_X6_termOf_p_2 (m : Mem) (seed : Int32) (n : Nat) (what : Int32) (tl : Nat → Nat) (nc : Nat) (nw : Nat) (cd : Nat → Nat) (cs : Nat → Nat) (wd : Nat → Nat) (htl : ∀ t, t < 2 → m 0 t = nI (tl t)) (ltl : ∀ t, tl t ≤ 31) (hnc : m 11 0 = nI nc) (lnc : nc ≤ 8) (hnw : m 14 0 = nI nw) (lnw : nw ≤ 6) (hcd : ∀ j, j < nc → m 12 j = nI (cd j)) (lcd : ∀ j, j < nc → cd j < 20) (hcs : ∀ j, j < nc → m 13 j = nI (cs j)) (lcs : ∀ j, j < nc → cs j < 8) (hwd : ∀ j, j < nw → m 15 j = nI (wd j)) (lwd : ∀ j, j < nw → wd j < 20) (hn : n ≤ 20) (hpos : 0 < nS tl m) : fX6_termOf_p seed n tl nc nw cd cs wd m 2 0 = (nI (nS tl m)) := show (fX6_runs (nP tl m) (nS tl m) (it (lX6_termOf_p_14 tl m) ((fX6_noCalls (fX6_asTold tl nc nw cd cs wd m)), seed) n).1) 2 0 = _ from (congrFun (fr_fX6_runs (nP tl m) (nS tl m) (it (lX6_termOf_p_14 tl m) ((fX6_noCalls (fX6_asTold tl nc nw cd cs wd m)), seed) n).1 2 (by decide) (by decide) (by decide) (by decide) (by decide) (by decide) (by decide) (by decide) (by decide)) 0).trans ((show (it (lX6_termOf_p_14 tl m) ((fX6_noCalls (fX6_asTold tl nc nw cd cs wd m)), seed) n).1 2 0 = (fX6_noCalls (fX6_asTold tl nc nw cd cs wd m)) 2 0 from congrFun (fi_lX6_termOf_p_14 tl m ((fX6_noCalls (fX6_asTold tl nc nw cd cs wd m)), seed) n 2 (by decide)) 0).trans ((congrFun (fr_fX6_noCalls  (fX6_asTold tl nc nw cd cs wd m) 2 (by decide)) 0).trans (gv_X6_asTold_2 m tl nc nw cd cs wd htl ltl hnc (by omega) hnw (by omega) hcd lcd hcs lcs hwd lwd)))
theorem gv_X6_termOf_p_6 (m : Mem) (seed : Int32) (n : Nat) (what : Int32) (tl : Nat → Nat) (nc : Nat) (nw : Nat) (cd : Nat → Nat) (cs : Nat → Nat) (wd : Nat → Nat) (htl : ∀ t, t < 2 → m 0 t = nI (tl t)) (ltl : ∀ t, tl t ≤ 31) (hnc : m 11 0 = nI nc) (lnc : nc ≤ 8) (hnw : m 14 0 = nI nw) (lnw : nw ≤ 6) (hcd : ∀ j, j < nc → m 12 j = nI (cd j)) (lcd : ∀ j, j < nc → cd j < 20) (hcs : ∀ j, j < nc → m 13 j = nI (cs j)) (lcs : ∀ j, j < nc → cs j < 8) (hwd : ∀ j, j < nw → m 15 j = nI (wd j)) (lwd : ∀ j, j < nw → wd j < 20) (hn : n ≤ 20) (hpos : 0 < nS tl m) : fX6_termOf_p seed n tl nc nw cd cs wd m 6 0 = (nI (nP tl m)) := show (fX6_runs (nP tl m) (nS tl m) (it (lX6_termOf_p_14 tl m) ((fX6_noCalls (fX6_asTold tl nc nw cd cs wd m)), seed) n).1) 6 0 = _ from (congrFun (fr_fX6_runs (nP tl m) (nS tl m) (it (lX6_termOf_p_14 tl m) ((fX6_noCalls (fX6_asTold tl nc nw cd cs wd m)), seed) n).1 6 (by decide) (by decide) (by decide) (by decide) (by decide) (by decide) (by decide) (by decide) (by decide)) 0).trans ((show (it (lX6_termOf_p_14 tl m) ((fX6_noCalls (fX6_asTold tl nc nw cd cs wd m)), seed) n).1 6 0 = (fX6_noCalls (fX6_asTold tl nc nw cd cs wd m)) 6 0 from congrFun (fi_lX6_termOf_p_14 tl m ((fX6_noCalls (fX6_asTold tl nc nw cd cs wd m)), seed) n 6 (by decide)) 0).trans ((congrFun (fr_fX6_noCalls  (fX6_asTold tl nc nw cd cs wd m) 6 (by decide)) 0).trans (gv_X6_asTold_6 m tl nc nw cd cs wd htl ltl hnc (by omega) hnw (by omega) hcd lcd hcs lcs hwd lwd)))
set_option maxHeartbeats 4000000 in
set_option maxRecDepth 100000 in
theorem metX6_termOf_p (l : Launch) (X : Mx) (m : Mem) (seed : Int32) (n : Nat) (what : Int32) (tl : Nat → Nat) (nc : Nat) (nw : Nat) (cd : Nat → Nat) (cs : Nat → Nat) (wd : Nat → Nat) (htl : ∀ t, t < 2 → m 0 t = nI (tl t)) (ltl : ∀ t, tl t ≤ 31) (hnc : m 11 0 = nI nc) (lnc : nc ≤ 8) (hnw : m 14 0 = nI nw) (lnw : nw ≤ 6) (hcd : ∀ j, j < nc → m 12 j = nI (cd j)) (lcd : ∀ j, j < nc → cd j < 20) (hcs : ∀ j, j < nc → m 13 j = nI (cs j)) (lcs : ∀ j, j < nc → cs j < 8) (hwd : ∀ j, j < nw → m 15 j = nI (wd j)) (lwd : ∀ j, j < nw → wd j < 20) (hn : n ≤ 20) (hpos : 0 < nS tl m) : Cn l yX6_termOf (ws_ yX6_termOf cX6_termOf 6 (some .int)) 9 0 0 [.ref (mx_ad X 40), .int seed, .int (nI n), .int what] (PicM X) (KM X) (mx_A X) m (fun rv_ w_ => rv_ = some (.int (rX6_termOf_p seed n what tl nc nw cd cs wd m)) ∧ w_ = (fX6_termOf_p seed n tl nc nw cd cs wd m)) := by
  refine cn_i (own := RX6) rfl (Nat.le_of_ble_eq_true rfl) rfl (fun g hgl hA F hret => ?_)
  refine Wd.eql (lv' := [(0, .ref (mx_ad X 40)), (1, .int seed), (2, .int (nI n)), (3, .int what)]) rfl ?_
  have hzS := lS tl m
  refine ro_aload_n F dX6_termOf_0 0 rfl ?_
  refine mo_cV (rest := []) F hA (metX6_asTold (gx_l g) X m tl nc nw cd cs wd htl ltl hnc (by omega) hnw (by omega) hcd lcd hcs lcs hwd lwd) cwX6_201 hdX6_asTold rfl (Nat.le_of_ble_eq_true rfl) (Nat.le_of_ble_eq_true rfl) (Nat.le_refl _) (Nat.le_refl _) rfl (Nat.le_of_ble_eq_true rfl) dX6_termOf_1 ?_
  refine ro_iload_n F dX6_termOf_4 1 rfl ?_
  refine ro_istore (lv' := [(0, .ref (mx_ad X 40)), (1, .int seed), (2, .int (nI n)), (3, .int what), (4, .int seed)]) F dX6_termOf_5 (Nat.le_of_ble_eq_true rfl) [1, 2, 3, 4, 0] rfl ?_
  refine ro_aload_n F dX6_termOf_7 0 rfl ?_
  refine mo_cV (rest := []) F hA (metX6_noCalls (gx_l g) X (fX6_asTold tl nc nw cd cs wd m)  ) cwX6_171 hdX6_noCalls rfl (Nat.le_of_ble_eq_true rfl) (Nat.le_of_ble_eq_true rfl) (Nat.le_refl _) (Nat.le_refl _) rfl (Nat.le_of_ble_eq_true rfl) dX6_termOf_8 ?_
  refine ro_iconst (v := (nI 0)) F dX6_termOf_11 (by decide) ?_
  refine ro_istore (lv' := [(0, .ref (mx_ad X 40)), (1, .int seed), (2, .int (nI n)), (3, .int what), (4, .int seed), (5, .int (nI 0))]) F dX6_termOf_12 (Nat.le_of_ble_eq_true rfl) [1, 2, 3, 4, 5, 0] rfl ?_
  refine Wd.sub (lv' := [(0, .ref (mx_ad X 40)), (2, .int (nI n)), (3, .int what), (4, .int seed), (5, .int (nI 0))]) [0, 2, 3, 4, 5] rfl ?_
  refine it_loop n (lX6_termOf_p_14 tl m) ((fX6_noCalls (fX6_asTold tl nc nw cd cs wd m)), seed) (fun (_ : Nat) (b14 : Mem × Int32) => ∀ f : Nat, f ≠ 17 → b14.1 f = (fX6_noCalls (fX6_asTold tl nc nw cd cs wd m)) f) (fun (i14 : Nat) (b14 : Mem × Int32) => Wd (PicM X) g 6 b14.1 0 0 14 [(0, .ref (mx_ad X 40)), (2, .int (nI n)), (3, .int what), (4, .int b14.2), (5, .int (nI i14))] []) (fun f _ => rfl) (fun i_ b_ _ hb f h17 => (fr_lX6_termOf_p_14 tl m i_ b_ f h17).trans (hb f h17)) (fun i14 b14 hi14 hf14 ih14 => ?_) (fun b14 hf14 he14 => ?_)
  · dsimp only [lX6_termOf_p_14] at ih14
    refine ro_iload F dX6_termOf_14 4 rfl ?_
    refine ro_iload_n F dX6_termOf_16 1 rfl ?_
    refine ro_icmp_geN (tgt := 67) F dX6_termOf_17 (by decide) (by omega) (by omega) (fun c17 => absurd c17 (by omega)) (fun c17 => ?_)
    refine ro_aload_n F dX6_termOf_20 0 rfl ?_
    have hz := lS tl m
    refine mo_gi F 2 (Nat.le_of_ble_eq_true rfl) rfl lkX6_122 rfl dX6_termOf_21 ((congrFun (hf14 2 (by decide)) 0).trans ((congrFun (fr_fX6_noCalls  (fX6_asTold tl nc nw cd cs wd m) 2 (by decide)) 0).trans (gv_X6_asTold_2 m tl nc nw cd cs wd htl ltl hnc (by omega) hnw (by omega) hcd lcd hcs lcs hwd lwd))) ?_
    refine ro_if_leN (tgt := 67) F dX6_termOf_24 (by decide) (by omega) (fun c24 => absurd c24 (by omega)) (fun c24 => ?_)
    refine ro_ldcw F q1553 dX6_termOf_27 ?_
    refine ro_iload F dX6_termOf_30 3 rfl ?_
    refine ro_imul F dX6_termOf_32 ?_
    refine ro_sipush (v := (nI 12345)) F dX6_termOf_33 (by decide) ?_
    refine ro_iadd F dX6_termOf_36 ?_
    refine ro_istore (lv' := [(0, .ref (mx_ad X 40)), (2, .int (nI n)), (3, .int what), (4, .int (((1103515245) * b14.2) + (nI 12345))), (5, .int (nI i14))]) F dX6_termOf_37 (Nat.le_of_ble_eq_true rfl) [1, 2, 3, 0, 4] rfl ?_
    refine ro_aload_n F dX6_termOf_39 0 rfl ?_
    refine mo_gr F 17 (Nat.le_of_ble_eq_true rfl) (by decide) lkX6_40 rfl dX6_termOf_40 ?_
    refine ro_bipush (v := (nI 20)) F dX6_termOf_43 (by decide) ?_
    refine ro_iload F dX6_termOf_45 3 rfl ?_
    refine ro_bipush (v := (nI 16)) F dX6_termOf_47 (by decide) ?_
    refine ro_iushr F dX6_termOf_49 ?_
    refine ro_aload_n F dX6_termOf_50 0 rfl ?_
    have hz := lS tl m
    refine mo_gi F 2 (Nat.le_of_ble_eq_true rfl) rfl lkX6_122 rfl dX6_termOf_51 ((congrFun (hf14 2 (by decide)) 0).trans ((congrFun (fr_fX6_noCalls  (fX6_asTold tl nc nw cd cs wd m) 2 (by decide)) 0).trans (gv_X6_asTold_2 m tl nc nw cd cs wd htl ltl hnc (by omega) hnw (by omega) hcd lcd hcs lcs hwd lwd))) ?_
    refine ro_irem F dX6_termOf_54 (nI_ne0 (by omega) (by omega)) ?_
    obtain ⟨hr1, hr2⟩ := ush_rem (n := nS tl m) hpos (by omega) (X := ((((1103515245) * b14.2) + (nI 12345)).toUInt32 >>> ((nI 16).toUInt32 &&& Int32.toUInt32 31)).toInt32) rfl
    refine ro_eqi (y := nI (((((1103515245) * b14.2) + (nI 12345)).toUInt32 >>> ((nI 16).toUInt32 &&& Int32.toUInt32 31)).toInt32.toNatClampNeg % (nS tl m))) hr1 ?_
    refine ro_imulN F dX6_termOf_55 ?_
    refine ro_iload F dX6_termOf_56 4 rfl ?_
    refine ro_iaddN F dX6_termOf_58 ?_
    refine ro_iconst (v := (nI 1)) F dX6_termOf_59 (by decide) ?_
    refine mo_stZ F hA 17 160 rfl (by decide) (by decide) rfl (by omega) (by decide) dX6_termOf_60 ?_
    refine ro_iincN (z := 1) (lv' := [(0, .ref (mx_ad X 40)), (2, .int (nI n)), (3, .int what), (4, .int (((1103515245) * b14.2) + (nI 12345))), (5, .int (nI (i14 + 1)))]) F dX6_termOf_61 4 rfl (Nat.le_of_ble_eq_true rfl) [1, 2, 3, 4, 0] rfl ?_
    refine ro_goto (tgt := 14) F dX6_termOf_64 (by decide) ?_
    exact ih14
  subst he14
  refine ro_iload F dX6_termOf_14 4 rfl ?_
  refine ro_iload_n F dX6_termOf_16 1 rfl ?_
  refine ro_icmp_geN (tgt := 67) F dX6_termOf_17 (by decide) (by omega) (by omega) (fun c17 => ?_) (fun c17 => absurd c17 (by omega))
  refine ro_aload_n F dX6_termOf_67 0 rfl ?_
  have hz := lP tl m
  have hz := lS tl m
  refine mo_cV (rest := []) F hA (metX6_runs (gx_l g) X ((it (lX6_termOf_p_14 tl m) ((fX6_noCalls (fX6_asTold tl nc nw cd cs wd m)), seed) n).1) (nP tl m) (nS tl m) ((show (it (lX6_termOf_p_14 tl m) ((fX6_noCalls (fX6_asTold tl nc nw cd cs wd m)), seed) n).1 6 0 = (fX6_noCalls (fX6_asTold tl nc nw cd cs wd m)) 6 0 from congrFun (fi_lX6_termOf_p_14 tl m ((fX6_noCalls (fX6_asTold tl nc nw cd cs wd m)), seed) n 6 (by decide)) 0).trans ((congrFun (fr_fX6_noCalls  (fX6_asTold tl nc nw cd cs wd m) 6 (by decide)) 0).trans (gv_X6_asTold_6 m tl nc nw cd cs wd htl ltl hnc (by omega) hnw (by omega) hcd lcd hcs lcs hwd lwd))) (by omega) ((show (it (lX6_termOf_p_14 tl m) ((fX6_noCalls (fX6_asTold tl nc nw cd cs wd m)), seed) n).1 2 0 = (fX6_noCalls (fX6_asTold tl nc nw cd cs wd m)) 2 0 from congrFun (fi_lX6_termOf_p_14 tl m ((fX6_noCalls (fX6_asTold tl nc nw cd cs wd m)), seed) n 2 (by decide)) 0).trans ((congrFun (fr_fX6_noCalls  (fX6_asTold tl nc nw cd cs wd m) 2 (by decide)) 0).trans (gv_X6_asTold_2 m tl nc nw cd cs wd htl ltl hnc (by omega) hnw (by omega) hcd lcd hcs lcs hwd lwd))) (by omega)) cwX6_204 hdX6_runs rfl (Nat.le_of_ble_eq_true rfl) (Nat.le_of_ble_eq_true rfl) (Nat.le_refl _) (Nat.le_refl _) rfl (Nat.le_of_ble_eq_true rfl) dX6_termOf_68 ?_
  refine ro_iload_n F dX6_termOf_71 2 rfl ?_
  have J88_72 : Wd (PicM X) g 6 (fX6_runs (nP tl m) (nS tl m) (it (lX6_termOf_p_14 tl m) ((fX6_noCalls (fX6_asTold tl nc nw cd cs wd m)), seed) n).1) 0 0 88 [] [.int (if what = 0 then (rX6_allOwed 19 (nS tl m) (fX6_runs (nP tl m) (nS tl m) (it (lX6_termOf_p_14 tl m) ((fX6_noCalls (fX6_asTold tl nc nw cd cs wd m)), seed) n).1)) else ((fX6_runs (nP tl m) (nS tl m) (it (lX6_termOf_p_14 tl m) ((fX6_noCalls (fX6_asTold tl nc nw cd cs wd m)), seed) n).1) 25 0))] := by
    exact hret _ _ _ _ _ _ (Nat.le_refl _) (Nat.le_refl _) dX6_termOf_88 rfl ⟨congrArg (fun z => some (Value.int z)) (rfl), rfl⟩
  refine ro_if_ne (tgt := 84) F dX6_termOf_72 (by decide) (fun c72 => ?_) (fun c72 => ?_)
  · refine ro_aload_n F dX6_termOf_84 0 rfl ?_
    refine mo_gi F 25 (Nat.le_of_ble_eq_true rfl) rfl lkX6_191 rfl dX6_termOf_85 rfl ?_
    exact Wd.sub (lv' := []) [] rfl <| Wd.to J88_72 rfl rfl (congrArg (fun z => ([Value.int z] : List Value)) (by simp only [if_neg c72]))
  · refine ro_aload_n F dX6_termOf_75 0 rfl ?_
    refine ro_bipush (v := (nI 19)) F dX6_termOf_76 (by decide) ?_
    have hz := lS tl m
    refine mo_cV (rest := []) F hA (metX6_allOwed (gx_l g) X (fX6_runs (nP tl m) (nS tl m) (it (lX6_termOf_p_14 tl m) ((fX6_noCalls (fX6_asTold tl nc nw cd cs wd m)), seed) n).1) 19 (nS tl m) ((congrFun (fr_fX6_runs (nP tl m) (nS tl m) (it (lX6_termOf_p_14 tl m) ((fX6_noCalls (fX6_asTold tl nc nw cd cs wd m)), seed) n).1 2 (by decide) (by decide) (by decide) (by decide) (by decide) (by decide) (by decide) (by decide) (by decide)) 0).trans ((show (it (lX6_termOf_p_14 tl m) ((fX6_noCalls (fX6_asTold tl nc nw cd cs wd m)), seed) n).1 2 0 = (fX6_noCalls (fX6_asTold tl nc nw cd cs wd m)) 2 0 from congrFun (fi_lX6_termOf_p_14 tl m ((fX6_noCalls (fX6_asTold tl nc nw cd cs wd m)), seed) n 2 (by decide)) 0).trans ((congrFun (fr_fX6_noCalls  (fX6_asTold tl nc nw cd cs wd m) 2 (by decide)) 0).trans (gv_X6_asTold_2 m tl nc nw cd cs wd htl ltl hnc (by omega) hnw (by omega) hcd lcd hcs lcs hwd lwd)))) (by omega) (by omega)) cwX6_210 hdX6_allOwed rfl (Nat.le_of_ble_eq_true rfl) (Nat.le_of_ble_eq_true rfl) (Nat.le_refl _) (Nat.le_refl _) rfl (Nat.le_of_ble_eq_true rfl) dX6_termOf_78 ?_
    refine ro_goto (tgt := 88) F dX6_termOf_81 (by decide) ?_
    exact Wd.sub (lv' := []) [] rfl <| Wd.to J88_72 rfl rfl (congrArg (fun z => ([Value.int z] : List Value)) (by simp only [if_pos c72]))
noncomputable def rX6_termOf_z (what : Int32) (tl : Nat → Nat) (nc : Nat) (nw : Nat) (cd : Nat → Nat) (cs : Nat → Nat) (wd : Nat → Nat) (m : Mem) : Int32 := (if what = 0 then (rX6_allOwed 19 (nS tl m) (fX6_runs (nP tl m) (nS tl m) (fX6_noCalls (fX6_asTold tl nc nw cd cs wd m)))) else ((fX6_runs (nP tl m) (nS tl m) (fX6_noCalls (fX6_asTold tl nc nw cd cs wd m))) 25 0))
noncomputable def fX6_termOf_z (tl : Nat → Nat) (nc : Nat) (nw : Nat) (cd : Nat → Nat) (cs : Nat → Nat) (wd : Nat → Nat) (m : Mem) : Mem := (fX6_runs (nP tl m) (nS tl m) (fX6_noCalls (fX6_asTold tl nc nw cd cs wd m)))
theorem fr_fX6_termOf_z (tl : Nat → Nat) (nc : Nat) (nw : Nat) (cd : Nat → Nat) (cs : Nat → Nat) (wd : Nat → Nat) (m : Mem) (f : Nat) (h2 : f ≠ 2) (h3 : f ≠ 3) (h4 : f ≠ 4) (h5 : f ≠ 5) (h6 : f ≠ 6) (h7 : f ≠ 7) (h8 : f ≠ 8) (h16 : f ≠ 16) (h17 : f ≠ 17) (h18 : f ≠ 18) (h19 : f ≠ 19) (h20 : f ≠ 20) (h21 : f ≠ 21) (h22 : f ≠ 22) (h23 : f ≠ 23) (h24 : f ≠ 24) (h25 : f ≠ 25) (h26 : f ≠ 26) (h27 : f ≠ 27) : fX6_termOf_z tl nc nw cd cs wd m f = m f := (fr_fX6_runs (nP tl m) (nS tl m) (fX6_noCalls (fX6_asTold tl nc nw cd cs wd m)) f h19 h20 h21 h22 h23 h24 h25 h26 h27).trans ((fr_fX6_noCalls  (fX6_asTold tl nc nw cd cs wd m) f h17).trans ((fr_fX6_asTold tl nc nw cd cs wd m f h2 h3 h4 h5 h6 h7 h8 h16 h17 h18).trans (rfl)))
theorem gv_X6_termOf_z_2 (m : Mem) (seed : Int32) (n : Nat) (what : Int32) (tl : Nat → Nat) (nc : Nat) (nw : Nat) (cd : Nat → Nat) (cs : Nat → Nat) (wd : Nat → Nat) (htl : ∀ t, t < 2 → m 0 t = nI (tl t)) (ltl : ∀ t, tl t ≤ 31) (hnc : m 11 0 = nI nc) (lnc : nc ≤ 8) (hnw : m 14 0 = nI nw) (lnw : nw ≤ 6) (hcd : ∀ j, j < nc → m 12 j = nI (cd j)) (lcd : ∀ j, j < nc → cd j < 20) (hcs : ∀ j, j < nc → m 13 j = nI (cs j)) (lcs : ∀ j, j < nc → cs j < 8) (hwd : ∀ j, j < nw → m 15 j = nI (wd j)) (lwd : ∀ j, j < nw → wd j < 20) (hn : n ≤ 20) (hn1 : 1 ≤ n) (hz0 : nS tl m = 0) : fX6_termOf_z tl nc nw cd cs wd m 2 0 = (nI (nS tl m)) := show (fX6_runs (nP tl m) (nS tl m) (fX6_noCalls (fX6_asTold tl nc nw cd cs wd m))) 2 0 = _ from (congrFun (fr_fX6_runs (nP tl m) (nS tl m) (fX6_noCalls (fX6_asTold tl nc nw cd cs wd m)) 2 (by decide) (by decide) (by decide) (by decide) (by decide) (by decide) (by decide) (by decide) (by decide)) 0).trans ((congrFun (fr_fX6_noCalls  (fX6_asTold tl nc nw cd cs wd m) 2 (by decide)) 0).trans (gv_X6_asTold_2 m tl nc nw cd cs wd htl ltl hnc (by omega) hnw (by omega) hcd lcd hcs lcs hwd lwd))
theorem gv_X6_termOf_z_6 (m : Mem) (seed : Int32) (n : Nat) (what : Int32) (tl : Nat → Nat) (nc : Nat) (nw : Nat) (cd : Nat → Nat) (cs : Nat → Nat) (wd : Nat → Nat) (htl : ∀ t, t < 2 → m 0 t = nI (tl t)) (ltl : ∀ t, tl t ≤ 31) (hnc : m 11 0 = nI nc) (lnc : nc ≤ 8) (hnw : m 14 0 = nI nw) (lnw : nw ≤ 6) (hcd : ∀ j, j < nc → m 12 j = nI (cd j)) (lcd : ∀ j, j < nc → cd j < 20) (hcs : ∀ j, j < nc → m 13 j = nI (cs j)) (lcs : ∀ j, j < nc → cs j < 8) (hwd : ∀ j, j < nw → m 15 j = nI (wd j)) (lwd : ∀ j, j < nw → wd j < 20) (hn : n ≤ 20) (hn1 : 1 ≤ n) (hz0 : nS tl m = 0) : fX6_termOf_z tl nc nw cd cs wd m 6 0 = (nI (nP tl m)) := show (fX6_runs (nP tl m) (nS tl m) (fX6_noCalls (fX6_asTold tl nc nw cd cs wd m))) 6 0 = _ from (congrFun (fr_fX6_runs (nP tl m) (nS tl m) (fX6_noCalls (fX6_asTold tl nc nw cd cs wd m)) 6 (by decide) (by decide) (by decide) (by decide) (by decide) (by decide) (by decide) (by decide) (by decide)) 0).trans ((congrFun (fr_fX6_noCalls  (fX6_asTold tl nc nw cd cs wd m) 6 (by decide)) 0).trans (gv_X6_asTold_6 m tl nc nw cd cs wd htl ltl hnc (by omega) hnw (by omega) hcd lcd hcs lcs hwd lwd))
set_option maxHeartbeats 4000000 in
set_option maxRecDepth 100000 in
theorem metX6_termOf_z (l : Launch) (X : Mx) (m : Mem) (seed : Int32) (n : Nat) (what : Int32) (tl : Nat → Nat) (nc : Nat) (nw : Nat) (cd : Nat → Nat) (cs : Nat → Nat) (wd : Nat → Nat) (htl : ∀ t, t < 2 → m 0 t = nI (tl t)) (ltl : ∀ t, tl t ≤ 31) (hnc : m 11 0 = nI nc) (lnc : nc ≤ 8) (hnw : m 14 0 = nI nw) (lnw : nw ≤ 6) (hcd : ∀ j, j < nc → m 12 j = nI (cd j)) (lcd : ∀ j, j < nc → cd j < 20) (hcs : ∀ j, j < nc → m 13 j = nI (cs j)) (lcs : ∀ j, j < nc → cs j < 8) (hwd : ∀ j, j < nw → m 15 j = nI (wd j)) (lwd : ∀ j, j < nw → wd j < 20) (hn : n ≤ 20) (hn1 : 1 ≤ n) (hz0 : nS tl m = 0) : Cn l yX6_termOf (ws_ yX6_termOf cX6_termOf 6 (some .int)) 9 0 0 [.ref (mx_ad X 40), .int seed, .int (nI n), .int what] (PicM X) (KM X) (mx_A X) m (fun rv_ w_ => rv_ = some (.int (rX6_termOf_z what tl nc nw cd cs wd m)) ∧ w_ = (fX6_termOf_z tl nc nw cd cs wd m)) := by
  refine cn_i (own := RX6) rfl (Nat.le_of_ble_eq_true rfl) rfl (fun g hgl hA F hret => ?_)
  refine Wd.eql (lv' := [(0, .ref (mx_ad X 40)), (1, .int seed), (2, .int (nI n)), (3, .int what)]) rfl ?_
  have hzS := lS tl m
  refine ro_aload_n F dX6_termOf_0 0 rfl ?_
  refine mo_cV (rest := []) F hA (metX6_asTold (gx_l g) X m tl nc nw cd cs wd htl ltl hnc (by omega) hnw (by omega) hcd lcd hcs lcs hwd lwd) cwX6_201 hdX6_asTold rfl (Nat.le_of_ble_eq_true rfl) (Nat.le_of_ble_eq_true rfl) (Nat.le_refl _) (Nat.le_refl _) rfl (Nat.le_of_ble_eq_true rfl) dX6_termOf_1 ?_
  refine ro_iload_n F dX6_termOf_4 1 rfl ?_
  refine ro_istore (lv' := [(0, .ref (mx_ad X 40)), (1, .int seed), (2, .int (nI n)), (3, .int what), (4, .int seed)]) F dX6_termOf_5 (Nat.le_of_ble_eq_true rfl) [1, 2, 3, 4, 0] rfl ?_
  refine ro_aload_n F dX6_termOf_7 0 rfl ?_
  refine mo_cV (rest := []) F hA (metX6_noCalls (gx_l g) X (fX6_asTold tl nc nw cd cs wd m)  ) cwX6_171 hdX6_noCalls rfl (Nat.le_of_ble_eq_true rfl) (Nat.le_of_ble_eq_true rfl) (Nat.le_refl _) (Nat.le_refl _) rfl (Nat.le_of_ble_eq_true rfl) dX6_termOf_8 ?_
  refine ro_iconst (v := (nI 0)) F dX6_termOf_11 (by decide) ?_
  refine ro_istore (lv' := [(0, .ref (mx_ad X 40)), (1, .int seed), (2, .int (nI n)), (3, .int what), (4, .int seed), (5, .int (nI 0))]) F dX6_termOf_12 (Nat.le_of_ble_eq_true rfl) [1, 2, 3, 4, 5, 0] rfl ?_
  refine ro_iload F dX6_termOf_14 5 rfl ?_
  refine ro_iload_n F dX6_termOf_16 2 rfl ?_
  refine ro_icmp_geN (tgt := 67) F dX6_termOf_17 (by decide) (by omega) (by omega) (fun c17 => absurd c17 (by omega)) (fun c17 => ?_)
  refine ro_aload_n F dX6_termOf_20 0 rfl ?_
  have hz := lS tl m
  refine mo_gi F 2 (Nat.le_of_ble_eq_true rfl) rfl lkX6_122 rfl dX6_termOf_21 ((congrFun (fr_fX6_noCalls  (fX6_asTold tl nc nw cd cs wd m) 2 (by decide)) 0).trans (gv_X6_asTold_2 m tl nc nw cd cs wd htl ltl hnc (by omega) hnw (by omega) hcd lcd hcs lcs hwd lwd)) ?_
  refine ro_if_leN (tgt := 67) F dX6_termOf_24 (by decide) (by omega) (fun c24 => ?_) (fun c24 => absurd hz0 c24)
  refine ro_aload_n F dX6_termOf_67 0 rfl ?_
  have hz := lP tl m
  have hz := lS tl m
  refine mo_cV (rest := []) F hA (metX6_runs (gx_l g) X (fX6_noCalls (fX6_asTold tl nc nw cd cs wd m)) (nP tl m) (nS tl m) ((congrFun (fr_fX6_noCalls  (fX6_asTold tl nc nw cd cs wd m) 6 (by decide)) 0).trans (gv_X6_asTold_6 m tl nc nw cd cs wd htl ltl hnc (by omega) hnw (by omega) hcd lcd hcs lcs hwd lwd)) (by omega) ((congrFun (fr_fX6_noCalls  (fX6_asTold tl nc nw cd cs wd m) 2 (by decide)) 0).trans (gv_X6_asTold_2 m tl nc nw cd cs wd htl ltl hnc (by omega) hnw (by omega) hcd lcd hcs lcs hwd lwd)) (by omega)) cwX6_204 hdX6_runs rfl (Nat.le_of_ble_eq_true rfl) (Nat.le_of_ble_eq_true rfl) (Nat.le_refl _) (Nat.le_refl _) rfl (Nat.le_of_ble_eq_true rfl) dX6_termOf_68 ?_
  refine ro_iload_n F dX6_termOf_71 3 rfl ?_
  have J88_72 : Wd (PicM X) g 6 (fX6_runs (nP tl m) (nS tl m) (fX6_noCalls (fX6_asTold tl nc nw cd cs wd m))) 0 0 88 [] [.int (if what = 0 then (rX6_allOwed 19 (nS tl m) (fX6_runs (nP tl m) (nS tl m) (fX6_noCalls (fX6_asTold tl nc nw cd cs wd m)))) else ((fX6_runs (nP tl m) (nS tl m) (fX6_noCalls (fX6_asTold tl nc nw cd cs wd m))) 25 0))] := by
    exact hret _ _ _ _ _ _ (Nat.le_refl _) (Nat.le_refl _) dX6_termOf_88 rfl ⟨congrArg (fun z => some (Value.int z)) (rfl), rfl⟩
  refine ro_if_ne (tgt := 84) F dX6_termOf_72 (by decide) (fun c72 => ?_) (fun c72 => ?_)
  · refine ro_aload_n F dX6_termOf_84 0 rfl ?_
    refine mo_gi F 25 (Nat.le_of_ble_eq_true rfl) rfl lkX6_191 rfl dX6_termOf_85 rfl ?_
    exact Wd.sub (lv' := []) [] rfl <| Wd.to J88_72 rfl rfl (congrArg (fun z => ([Value.int z] : List Value)) (by simp only [if_neg c72]))
  · refine ro_aload_n F dX6_termOf_75 0 rfl ?_
    refine ro_bipush (v := (nI 19)) F dX6_termOf_76 (by decide) ?_
    have hz := lS tl m
    refine mo_cV (rest := []) F hA (metX6_allOwed (gx_l g) X (fX6_runs (nP tl m) (nS tl m) (fX6_noCalls (fX6_asTold tl nc nw cd cs wd m))) 19 (nS tl m) ((congrFun (fr_fX6_runs (nP tl m) (nS tl m) (fX6_noCalls (fX6_asTold tl nc nw cd cs wd m)) 2 (by decide) (by decide) (by decide) (by decide) (by decide) (by decide) (by decide) (by decide) (by decide)) 0).trans ((congrFun (fr_fX6_noCalls  (fX6_asTold tl nc nw cd cs wd m) 2 (by decide)) 0).trans (gv_X6_asTold_2 m tl nc nw cd cs wd htl ltl hnc (by omega) hnw (by omega) hcd lcd hcs lcs hwd lwd))) (by omega) (by omega)) cwX6_210 hdX6_allOwed rfl (Nat.le_of_ble_eq_true rfl) (Nat.le_of_ble_eq_true rfl) (Nat.le_refl _) (Nat.le_refl _) rfl (Nat.le_of_ble_eq_true rfl) dX6_termOf_78 ?_
    refine ro_goto (tgt := 88) F dX6_termOf_81 (by decide) ?_
    exact Wd.sub (lv' := []) [] rfl <| Wd.to J88_72 rfl rfl (congrArg (fun z => ([Value.int z] : List Value)) (by simp only [if_pos c72]))
noncomputable def rX6_term_p (seed : Int32) (n : Nat) (what : Int32) (tl : Nat → Nat) (nc : Nat) (nw : Nat) (cd : Nat → Nat) (cs : Nat → Nat) (wd : Nat → Nat) (m : Mem) : Int32 := (if ¬ (what < (nI 0)) ∧ (¬ ((nI 1) < what)) then (rX6_termOf_p seed n what tl nc nw cd cs wd m) else (-2))
noncomputable def fX6_term_p (seed : Int32) (n : Nat) (what : Int32) (tl : Nat → Nat) (nc : Nat) (nw : Nat) (cd : Nat → Nat) (cs : Nat → Nat) (wd : Nat → Nat) (m : Mem) : Mem := (if ¬ (what < (nI 0)) ∧ (¬ ((nI 1) < what)) then (fX6_termOf_p seed n tl nc nw cd cs wd m) else m)
theorem fr_fX6_term_p (seed : Int32) (n : Nat) (what : Int32) (tl : Nat → Nat) (nc : Nat) (nw : Nat) (cd : Nat → Nat) (cs : Nat → Nat) (wd : Nat → Nat) (m : Mem) (f : Nat) (h2 : f ≠ 2) (h3 : f ≠ 3) (h4 : f ≠ 4) (h5 : f ≠ 5) (h6 : f ≠ 6) (h7 : f ≠ 7) (h8 : f ≠ 8) (h16 : f ≠ 16) (h17 : f ≠ 17) (h18 : f ≠ 18) (h19 : f ≠ 19) (h20 : f ≠ 20) (h21 : f ≠ 21) (h22 : f ≠ 22) (h23 : f ≠ 23) (h24 : f ≠ 24) (h25 : f ≠ 25) (h26 : f ≠ 26) (h27 : f ≠ 27) : fX6_term_p seed n what tl nc nw cd cs wd m f = m f := ite_fr ((fr_fX6_termOf_p seed n tl nc nw cd cs wd m f h2 h3 h4 h5 h6 h7 h8 h16 h17 h18 h19 h20 h21 h22 h23 h24 h25 h26 h27).trans (rfl)) (rfl)
set_option maxHeartbeats 4000000 in
set_option maxRecDepth 100000 in
theorem metX6_term_p (l : Launch) (X : Mx) (m : Mem) (seed : Int32) (n : Nat) (what : Int32) (tl : Nat → Nat) (nc : Nat) (nw : Nat) (cd : Nat → Nat) (cs : Nat → Nat) (wd : Nat → Nat) (htl : ∀ t, t < 2 → m 0 t = nI (tl t)) (ltl : ∀ t, tl t ≤ 31) (hnc : m 11 0 = nI nc) (lnc : nc ≤ 8) (hnw : m 14 0 = nI nw) (lnw : nw ≤ 6) (hcd : ∀ j, j < nc → m 12 j = nI (cd j)) (lcd : ∀ j, j < nc → cd j < 20) (hcs : ∀ j, j < nc → m 13 j = nI (cs j)) (lcs : ∀ j, j < nc → cs j < 8) (hwd : ∀ j, j < nw → m 15 j = nI (wd j)) (lwd : ∀ j, j < nw → wd j < 20) (hn : n ≤ 20) (hn1 : 1 ≤ n) (hpos : 0 < nS tl m) : Cn l yX6_term (ws_ yX6_term cX6_term 4 (some .int)) 10 0 0 [.ref (mx_ad X 40), .int seed, .int (nI n), .int what] (PicM X) (KM X) (mx_A X) m (fun rv_ w_ => rv_ = some (.int (rX6_term_p seed n what tl nc nw cd cs wd m)) ∧ w_ = (fX6_term_p seed n what tl nc nw cd cs wd m)) := by
  refine cn_i (own := RX6) rfl (Nat.le_of_ble_eq_true rfl) rfl (fun g hgl hA F hret => ?_)
  refine Wd.eql (lv' := [(0, .ref (mx_ad X 40)), (1, .int seed), (2, .int (nI n)), (3, .int what)]) rfl ?_
  refine ro_iload_n F dX6_term_0 2 rfl ?_
  refine ro_iconst (v := (nI 1)) F dX6_term_1 (by decide) ?_
  refine ro_bipush (v := (nI 20)) F dX6_term_2 (by decide) ?_
  refine mo_cS (rest := []) F hA (metX6_in (gx_l g) X m (nI n) (nI 1) (nI 20) ) cwX6_104 hdX6_in rfl (Nat.le_of_ble_eq_true rfl) (Nat.le_of_ble_eq_true rfl) (Nat.le_refl _) (Nat.le_refl _) rfl (Nat.le_of_ble_eq_true rfl) dX6_term_4 ?_
  refine ro_if_eqB (tgt := 29) F dX6_term_7 (by decide) (fun c7 => absurd (in_ok (by omega) (by omega) (by decide)) c7) (fun c7 => ?_)
  refine ro_iload_n F dX6_term_10 3 rfl ?_
  refine ro_iconst (v := (nI 0)) F dX6_term_11 (by decide) ?_
  refine ro_iconst (v := (nI 1)) F dX6_term_12 (by decide) ?_
  refine mo_cS (rest := []) F hA (metX6_in (gx_l g) X m what (nI 0) (nI 1) ) cwX6_104 hdX6_in rfl (Nat.le_of_ble_eq_true rfl) (Nat.le_of_ble_eq_true rfl) (Nat.le_refl _) (Nat.le_refl _) rfl (Nat.le_of_ble_eq_true rfl) dX6_term_13 ?_
  have J31_16 : Wd (PicM X) g 4 (if ¬ (what < (nI 0)) ∧ (¬ ((nI 1) < what)) then (fX6_termOf_p seed n tl nc nw cd cs wd m) else m) 0 0 31 [] [.int (if ¬ (what < (nI 0)) ∧ (¬ ((nI 1) < what)) then (rX6_termOf_p seed n what tl nc nw cd cs wd m) else (-2))] := by
    exact hret _ _ _ _ _ _ (Nat.le_refl _) (Nat.le_refl _) dX6_term_31 rfl ⟨congrArg (fun z => some (Value.int z)) (rfl), rfl⟩
  refine ro_if_eqB (tgt := 29) F dX6_term_16 (by decide) (fun c16 => ?_) (fun c16 => ?_)
  · refine ro_bipush (v := (-2)) F dX6_term_29 (by decide) ?_
    exact Wd.sub (lv' := []) [] rfl <| Wd.to J31_16 (by simp only [if_neg c16]) rfl (congrArg (fun z => ([Value.int z] : List Value)) (by simp only [if_neg c16]))
  · refine ro_aload_n F dX6_term_19 0 rfl ?_
    refine ro_iload_n F dX6_term_20 1 rfl ?_
    refine ro_iload_n F dX6_term_21 2 rfl ?_
    refine ro_iload_n F dX6_term_22 3 rfl ?_
    refine mo_cV (rest := []) F hA (metX6_termOf_p (gx_l g) X m seed n what tl nc nw cd cs wd htl ltl hnc (by omega) hnw (by omega) hcd lcd hcs lcs hwd lwd (by omega) (by omega)) cwX6_280 hdX6_termOf rfl (Nat.le_of_ble_eq_true rfl) (Nat.le_of_ble_eq_true rfl) (Nat.le_refl _) (Nat.le_refl _) rfl (Nat.le_of_ble_eq_true rfl) dX6_term_23 ?_
    refine ro_goto (tgt := 31) F dX6_term_26 (by decide) ?_
    exact Wd.sub (lv' := []) [] rfl <| Wd.to J31_16 (by simp only [if_pos c16]) rfl (congrArg (fun z => ([Value.int z] : List Value)) (by simp only [if_pos c16]))
noncomputable def rX6_term_z (what : Int32) (tl : Nat → Nat) (nc : Nat) (nw : Nat) (cd : Nat → Nat) (cs : Nat → Nat) (wd : Nat → Nat) (m : Mem) : Int32 := (if ¬ (what < (nI 0)) ∧ (¬ ((nI 1) < what)) then (rX6_termOf_z what tl nc nw cd cs wd m) else (-2))
noncomputable def fX6_term_z (what : Int32) (tl : Nat → Nat) (nc : Nat) (nw : Nat) (cd : Nat → Nat) (cs : Nat → Nat) (wd : Nat → Nat) (m : Mem) : Mem := (if ¬ (what < (nI 0)) ∧ (¬ ((nI 1) < what)) then (fX6_termOf_z tl nc nw cd cs wd m) else m)
theorem fr_fX6_term_z (what : Int32) (tl : Nat → Nat) (nc : Nat) (nw : Nat) (cd : Nat → Nat) (cs : Nat → Nat) (wd : Nat → Nat) (m : Mem) (f : Nat) (h2 : f ≠ 2) (h3 : f ≠ 3) (h4 : f ≠ 4) (h5 : f ≠ 5) (h6 : f ≠ 6) (h7 : f ≠ 7) (h8 : f ≠ 8) (h16 : f ≠ 16) (h17 : f ≠ 17) (h18 : f ≠ 18) (h19 : f ≠ 19) (h20 : f ≠ 20) (h21 : f ≠ 21) (h22 : f ≠ 22) (h23 : f ≠ 23) (h24 : f ≠ 24) (h25 : f ≠ 25) (h26 : f ≠ 26) (h27 : f ≠ 27) : fX6_term_z what tl nc nw cd cs wd m f = m f := ite_fr ((fr_fX6_termOf_z tl nc nw cd cs wd m f h2 h3 h4 h5 h6 h7 h8 h16 h17 h18 h19 h20 h21 h22 h23 h24 h25 h26 h27).trans (rfl)) (rfl)
set_option maxHeartbeats 4000000 in
set_option maxRecDepth 100000 in
theorem metX6_term_z (l : Launch) (X : Mx) (m : Mem) (seed : Int32) (n : Nat) (what : Int32) (tl : Nat → Nat) (nc : Nat) (nw : Nat) (cd : Nat → Nat) (cs : Nat → Nat) (wd : Nat → Nat) (htl : ∀ t, t < 2 → m 0 t = nI (tl t)) (ltl : ∀ t, tl t ≤ 31) (hnc : m 11 0 = nI nc) (lnc : nc ≤ 8) (hnw : m 14 0 = nI nw) (lnw : nw ≤ 6) (hcd : ∀ j, j < nc → m 12 j = nI (cd j)) (lcd : ∀ j, j < nc → cd j < 20) (hcs : ∀ j, j < nc → m 13 j = nI (cs j)) (lcs : ∀ j, j < nc → cs j < 8) (hwd : ∀ j, j < nw → m 15 j = nI (wd j)) (lwd : ∀ j, j < nw → wd j < 20) (hn : n ≤ 20) (hn1 : 1 ≤ n) (hz0 : nS tl m = 0) : Cn l yX6_term (ws_ yX6_term cX6_term 4 (some .int)) 10 0 0 [.ref (mx_ad X 40), .int seed, .int (nI n), .int what] (PicM X) (KM X) (mx_A X) m (fun rv_ w_ => rv_ = some (.int (rX6_term_z what tl nc nw cd cs wd m)) ∧ w_ = (fX6_term_z what tl nc nw cd cs wd m)) := by
  refine cn_i (own := RX6) rfl (Nat.le_of_ble_eq_true rfl) rfl (fun g hgl hA F hret => ?_)
  refine Wd.eql (lv' := [(0, .ref (mx_ad X 40)), (1, .int seed), (2, .int (nI n)), (3, .int what)]) rfl ?_
  refine ro_iload_n F dX6_term_0 2 rfl ?_
  refine ro_iconst (v := (nI 1)) F dX6_term_1 (by decide) ?_
  refine ro_bipush (v := (nI 20)) F dX6_term_2 (by decide) ?_
  refine mo_cS (rest := []) F hA (metX6_in (gx_l g) X m (nI n) (nI 1) (nI 20) ) cwX6_104 hdX6_in rfl (Nat.le_of_ble_eq_true rfl) (Nat.le_of_ble_eq_true rfl) (Nat.le_refl _) (Nat.le_refl _) rfl (Nat.le_of_ble_eq_true rfl) dX6_term_4 ?_
  refine ro_if_eqB (tgt := 29) F dX6_term_7 (by decide) (fun c7 => absurd (in_ok (by omega) (by omega) (by decide)) c7) (fun c7 => ?_)
  refine ro_iload_n F dX6_term_10 3 rfl ?_
  refine ro_iconst (v := (nI 0)) F dX6_term_11 (by decide) ?_
  refine ro_iconst (v := (nI 1)) F dX6_term_12 (by decide) ?_
  refine mo_cS (rest := []) F hA (metX6_in (gx_l g) X m what (nI 0) (nI 1) ) cwX6_104 hdX6_in rfl (Nat.le_of_ble_eq_true rfl) (Nat.le_of_ble_eq_true rfl) (Nat.le_refl _) (Nat.le_refl _) rfl (Nat.le_of_ble_eq_true rfl) dX6_term_13 ?_
  have J31_16 : Wd (PicM X) g 4 (if ¬ (what < (nI 0)) ∧ (¬ ((nI 1) < what)) then (fX6_termOf_z tl nc nw cd cs wd m) else m) 0 0 31 [] [.int (if ¬ (what < (nI 0)) ∧ (¬ ((nI 1) < what)) then (rX6_termOf_z what tl nc nw cd cs wd m) else (-2))] := by
    exact hret _ _ _ _ _ _ (Nat.le_refl _) (Nat.le_refl _) dX6_term_31 rfl ⟨congrArg (fun z => some (Value.int z)) (rfl), rfl⟩
  refine ro_if_eqB (tgt := 29) F dX6_term_16 (by decide) (fun c16 => ?_) (fun c16 => ?_)
  · refine ro_bipush (v := (-2)) F dX6_term_29 (by decide) ?_
    exact Wd.sub (lv' := []) [] rfl <| Wd.to J31_16 (by simp only [if_neg c16]) rfl (congrArg (fun z => ([Value.int z] : List Value)) (by simp only [if_neg c16]))
  · refine ro_aload_n F dX6_term_19 0 rfl ?_
    refine ro_iload_n F dX6_term_20 1 rfl ?_
    refine ro_iload_n F dX6_term_21 2 rfl ?_
    refine ro_iload_n F dX6_term_22 3 rfl ?_
    refine mo_cV (rest := []) F hA (metX6_termOf_z (gx_l g) X m seed n what tl nc nw cd cs wd htl ltl hnc (by omega) hnw (by omega) hcd lcd hcs lcs hwd lwd (by omega) (by omega) (by omega)) cwX6_280 hdX6_termOf rfl (Nat.le_of_ble_eq_true rfl) (Nat.le_of_ble_eq_true rfl) (Nat.le_refl _) (Nat.le_refl _) rfl (Nat.le_of_ble_eq_true rfl) dX6_term_23 ?_
    refine ro_goto (tgt := 31) F dX6_term_26 (by decide) ?_
    exact Wd.sub (lv' := []) [] rfl <| Wd.to J31_16 (by simp only [if_pos c16]) rfl (congrArg (fun z => ([Value.int z] : List Value)) (by simp only [if_pos c16]))
set_option maxHeartbeats 4000000 in
set_option maxRecDepth 100000 in
theorem metX6_term_no (l : Launch) (X : Mx) (m : Mem) (seed : Int32) (n : Int32) (what : Int32)  (hb : ¬ (¬ (n < nI 1) ∧ ¬ (nI 20 < n))) : Cn l yX6_term (ws_ yX6_term cX6_term 4 (some .int)) 10 0 0 [.ref (mx_ad X 40), .int seed, .int n, .int what] (PicM X) (KM X) (mx_A X) m (fun rv_ w_ => rv_ = some (.int (-2)) ∧ w_ = m) := by
  refine cn_i (own := RX6) rfl (Nat.le_of_ble_eq_true rfl) rfl (fun g hgl hA F hret => ?_)
  refine Wd.eql (lv' := [(0, .ref (mx_ad X 40)), (1, .int seed), (2, .int n), (3, .int what)]) rfl ?_
  refine ro_iload_n F dX6_term_0 2 rfl ?_
  refine ro_iconst (v := (nI 1)) F dX6_term_1 (by decide) ?_
  refine ro_bipush (v := (nI 20)) F dX6_term_2 (by decide) ?_
  refine mo_cS (rest := []) F hA (metX6_in (gx_l g) X m n (nI 1) (nI 20) ) cwX6_104 hdX6_in rfl (Nat.le_of_ble_eq_true rfl) (Nat.le_of_ble_eq_true rfl) (Nat.le_refl _) (Nat.le_refl _) rfl (Nat.le_of_ble_eq_true rfl) dX6_term_4 ?_
  refine ro_if_eqB (tgt := 29) F dX6_term_7 (by decide) (fun c7 => ?_) (fun c7 => absurd c7 hb)
  refine ro_bipush (v := (-2)) F dX6_term_29 (by decide) ?_
  exact hret _ _ _ _ _ _ (Nat.le_refl _) (Nat.le_refl _) dX6_term_31 rfl ⟨rfl, rfl⟩
noncomputable def rX6_count_0 (tl : Nat → Nat) (nc : Nat) (nw : Nat) (cd : Nat → Nat) (cs : Nat → Nat) (wd : Nat → Nat) (m : Mem) : Int32 := (rX6_sumOf (nI 0) tl nc nw cd cs wd m)
noncomputable def fX6_count_0 (tl : Nat → Nat) (nc : Nat) (nw : Nat) (cd : Nat → Nat) (cs : Nat → Nat) (wd : Nat → Nat) (m : Mem) : Mem := (fX6_sumOf tl nc nw cd cs wd m)
theorem fr_fX6_count_0 (tl : Nat → Nat) (nc : Nat) (nw : Nat) (cd : Nat → Nat) (cs : Nat → Nat) (wd : Nat → Nat) (m : Mem) (f : Nat) (h2 : f ≠ 2) (h3 : f ≠ 3) (h4 : f ≠ 4) (h5 : f ≠ 5) (h6 : f ≠ 6) (h7 : f ≠ 7) (h8 : f ≠ 8) (h16 : f ≠ 16) (h17 : f ≠ 17) (h18 : f ≠ 18) (h19 : f ≠ 19) (h20 : f ≠ 20) (h21 : f ≠ 21) (h22 : f ≠ 22) (h23 : f ≠ 23) (h24 : f ≠ 24) (h25 : f ≠ 25) (h26 : f ≠ 26) (h27 : f ≠ 27) : fX6_count_0 tl nc nw cd cs wd m f = m f := (fr_fX6_sumOf tl nc nw cd cs wd m f h2 h3 h4 h5 h6 h7 h8 h16 h17 h18 h19 h20 h21 h22 h23 h24 h25 h26 h27).trans (rfl)
theorem gv_X6_count_0_2 (m : Mem)  (tl : Nat → Nat) (nc : Nat) (nw : Nat) (cd : Nat → Nat) (cs : Nat → Nat) (wd : Nat → Nat) (htl : ∀ t, t < 2 → m 0 t = nI (tl t)) (ltl : ∀ t, tl t ≤ 31) (hnc : m 11 0 = nI nc) (lnc : nc ≤ 8) (hnw : m 14 0 = nI nw) (lnw : nw ≤ 6) (hcd : ∀ j, j < nc → m 12 j = nI (cd j)) (lcd : ∀ j, j < nc → cd j < 20) (hcs : ∀ j, j < nc → m 13 j = nI (cs j)) (lcs : ∀ j, j < nc → cs j < 8) (hwd : ∀ j, j < nw → m 15 j = nI (wd j)) (lwd : ∀ j, j < nw → wd j < 20) : fX6_count_0 tl nc nw cd cs wd m 2 0 = (nI (nS tl m)) := show (fX6_sumOf tl nc nw cd cs wd m) 2 0 = _ from gv_X6_sumOf_2 m (nI 0) tl nc nw cd cs wd htl ltl hnc (by omega) hnw (by omega) hcd lcd hcs lcs hwd lwd
theorem gv_X6_count_0_6 (m : Mem)  (tl : Nat → Nat) (nc : Nat) (nw : Nat) (cd : Nat → Nat) (cs : Nat → Nat) (wd : Nat → Nat) (htl : ∀ t, t < 2 → m 0 t = nI (tl t)) (ltl : ∀ t, tl t ≤ 31) (hnc : m 11 0 = nI nc) (lnc : nc ≤ 8) (hnw : m 14 0 = nI nw) (lnw : nw ≤ 6) (hcd : ∀ j, j < nc → m 12 j = nI (cd j)) (lcd : ∀ j, j < nc → cd j < 20) (hcs : ∀ j, j < nc → m 13 j = nI (cs j)) (lcs : ∀ j, j < nc → cs j < 8) (hwd : ∀ j, j < nw → m 15 j = nI (wd j)) (lwd : ∀ j, j < nw → wd j < 20) : fX6_count_0 tl nc nw cd cs wd m 6 0 = (nI (nP tl m)) := show (fX6_sumOf tl nc nw cd cs wd m) 6 0 = _ from gv_X6_sumOf_6 m (nI 0) tl nc nw cd cs wd htl ltl hnc (by omega) hnw (by omega) hcd lcd hcs lcs hwd lwd
set_option maxHeartbeats 4000000 in
set_option maxRecDepth 100000 in
theorem metX6_count_0 (l : Launch) (X : Mx) (m : Mem)  (tl : Nat → Nat) (nc : Nat) (nw : Nat) (cd : Nat → Nat) (cs : Nat → Nat) (wd : Nat → Nat) (htl : ∀ t, t < 2 → m 0 t = nI (tl t)) (ltl : ∀ t, tl t ≤ 31) (hnc : m 11 0 = nI nc) (lnc : nc ≤ 8) (hnw : m 14 0 = nI nw) (lnw : nw ≤ 6) (hcd : ∀ j, j < nc → m 12 j = nI (cd j)) (lcd : ∀ j, j < nc → cd j < 20) (hcs : ∀ j, j < nc → m 13 j = nI (cs j)) (lcs : ∀ j, j < nc → cs j < 8) (hwd : ∀ j, j < nw → m 15 j = nI (wd j)) (lwd : ∀ j, j < nw → wd j < 20) : Cn l yX6_count (ws_ yX6_count cX6_count 2 (some .int)) 10 0 0 [.ref (mx_ad X 40), .int (nI 0)] (PicM X) (KM X) (mx_A X) m (fun rv_ w_ => rv_ = some (.int (rX6_count_0 tl nc nw cd cs wd m)) ∧ w_ = (fX6_count_0 tl nc nw cd cs wd m)) := by
  refine cn_i (own := RX6) rfl (Nat.le_of_ble_eq_true rfl) rfl (fun g hgl hA F hret => ?_)
  refine Wd.eql (lv' := [(0, .ref (mx_ad X 40)), (1, .int (nI 0))]) rfl ?_
  refine ro_iload_n F dX6_count_0 1 rfl ?_
  refine ro_tableIn (tgt := 52) F dX6_count_1 (by decide) (by decide) rfl (by decide) ?_
  refine ro_aload_n F dX6_count_52 0 rfl ?_
  refine ro_iload_n F dX6_count_53 1 rfl ?_
  refine mo_cV (rest := []) F hA (metX6_sumOf (gx_l g) X m (nI 0) tl nc nw cd cs wd htl ltl hnc (by omega) hnw (by omega) hcd lcd hcs lcs hwd lwd) cwX6_294 hdX6_sumOf rfl (Nat.le_of_ble_eq_true rfl) (Nat.le_of_ble_eq_true rfl) (Nat.le_refl _) (Nat.le_refl _) rfl (Nat.le_of_ble_eq_true rfl) dX6_count_54 ?_
  exact hret _ _ _ _ _ _ (Nat.le_refl _) (Nat.le_refl _) dX6_count_57 rfl ⟨congrArg (fun z => some (Value.int z)) (rfl), rfl⟩
noncomputable def rX6_count_1 (tl : Nat → Nat) (nc : Nat) (nw : Nat) (cd : Nat → Nat) (cs : Nat → Nat) (wd : Nat → Nat) (m : Mem) : Int32 := (rX6_sumOf (nI 1) tl nc nw cd cs wd m)
noncomputable def fX6_count_1 (tl : Nat → Nat) (nc : Nat) (nw : Nat) (cd : Nat → Nat) (cs : Nat → Nat) (wd : Nat → Nat) (m : Mem) : Mem := (fX6_sumOf tl nc nw cd cs wd m)
theorem fr_fX6_count_1 (tl : Nat → Nat) (nc : Nat) (nw : Nat) (cd : Nat → Nat) (cs : Nat → Nat) (wd : Nat → Nat) (m : Mem) (f : Nat) (h2 : f ≠ 2) (h3 : f ≠ 3) (h4 : f ≠ 4) (h5 : f ≠ 5) (h6 : f ≠ 6) (h7 : f ≠ 7) (h8 : f ≠ 8) (h16 : f ≠ 16) (h17 : f ≠ 17) (h18 : f ≠ 18) (h19 : f ≠ 19) (h20 : f ≠ 20) (h21 : f ≠ 21) (h22 : f ≠ 22) (h23 : f ≠ 23) (h24 : f ≠ 24) (h25 : f ≠ 25) (h26 : f ≠ 26) (h27 : f ≠ 27) : fX6_count_1 tl nc nw cd cs wd m f = m f := (fr_fX6_sumOf tl nc nw cd cs wd m f h2 h3 h4 h5 h6 h7 h8 h16 h17 h18 h19 h20 h21 h22 h23 h24 h25 h26 h27).trans (rfl)
theorem gv_X6_count_1_2 (m : Mem)  (tl : Nat → Nat) (nc : Nat) (nw : Nat) (cd : Nat → Nat) (cs : Nat → Nat) (wd : Nat → Nat) (htl : ∀ t, t < 2 → m 0 t = nI (tl t)) (ltl : ∀ t, tl t ≤ 31) (hnc : m 11 0 = nI nc) (lnc : nc ≤ 8) (hnw : m 14 0 = nI nw) (lnw : nw ≤ 6) (hcd : ∀ j, j < nc → m 12 j = nI (cd j)) (lcd : ∀ j, j < nc → cd j < 20) (hcs : ∀ j, j < nc → m 13 j = nI (cs j)) (lcs : ∀ j, j < nc → cs j < 8) (hwd : ∀ j, j < nw → m 15 j = nI (wd j)) (lwd : ∀ j, j < nw → wd j < 20) : fX6_count_1 tl nc nw cd cs wd m 2 0 = (nI (nS tl m)) := show (fX6_sumOf tl nc nw cd cs wd m) 2 0 = _ from gv_X6_sumOf_2 m (nI 1) tl nc nw cd cs wd htl ltl hnc (by omega) hnw (by omega) hcd lcd hcs lcs hwd lwd
theorem gv_X6_count_1_6 (m : Mem)  (tl : Nat → Nat) (nc : Nat) (nw : Nat) (cd : Nat → Nat) (cs : Nat → Nat) (wd : Nat → Nat) (htl : ∀ t, t < 2 → m 0 t = nI (tl t)) (ltl : ∀ t, tl t ≤ 31) (hnc : m 11 0 = nI nc) (lnc : nc ≤ 8) (hnw : m 14 0 = nI nw) (lnw : nw ≤ 6) (hcd : ∀ j, j < nc → m 12 j = nI (cd j)) (lcd : ∀ j, j < nc → cd j < 20) (hcs : ∀ j, j < nc → m 13 j = nI (cs j)) (lcs : ∀ j, j < nc → cs j < 8) (hwd : ∀ j, j < nw → m 15 j = nI (wd j)) (lwd : ∀ j, j < nw → wd j < 20) : fX6_count_1 tl nc nw cd cs wd m 6 0 = (nI (nP tl m)) := show (fX6_sumOf tl nc nw cd cs wd m) 6 0 = _ from gv_X6_sumOf_6 m (nI 1) tl nc nw cd cs wd htl ltl hnc (by omega) hnw (by omega) hcd lcd hcs lcs hwd lwd
set_option maxHeartbeats 4000000 in
set_option maxRecDepth 100000 in
theorem metX6_count_1 (l : Launch) (X : Mx) (m : Mem)  (tl : Nat → Nat) (nc : Nat) (nw : Nat) (cd : Nat → Nat) (cs : Nat → Nat) (wd : Nat → Nat) (htl : ∀ t, t < 2 → m 0 t = nI (tl t)) (ltl : ∀ t, tl t ≤ 31) (hnc : m 11 0 = nI nc) (lnc : nc ≤ 8) (hnw : m 14 0 = nI nw) (lnw : nw ≤ 6) (hcd : ∀ j, j < nc → m 12 j = nI (cd j)) (lcd : ∀ j, j < nc → cd j < 20) (hcs : ∀ j, j < nc → m 13 j = nI (cs j)) (lcs : ∀ j, j < nc → cs j < 8) (hwd : ∀ j, j < nw → m 15 j = nI (wd j)) (lwd : ∀ j, j < nw → wd j < 20) : Cn l yX6_count (ws_ yX6_count cX6_count 2 (some .int)) 10 0 0 [.ref (mx_ad X 40), .int (nI 1)] (PicM X) (KM X) (mx_A X) m (fun rv_ w_ => rv_ = some (.int (rX6_count_1 tl nc nw cd cs wd m)) ∧ w_ = (fX6_count_1 tl nc nw cd cs wd m)) := by
  refine cn_i (own := RX6) rfl (Nat.le_of_ble_eq_true rfl) rfl (fun g hgl hA F hret => ?_)
  refine Wd.eql (lv' := [(0, .ref (mx_ad X 40)), (1, .int (nI 1))]) rfl ?_
  refine ro_iload_n F dX6_count_0 1 rfl ?_
  refine ro_tableIn (tgt := 52) F dX6_count_1 (by decide) (by decide) rfl (by decide) ?_
  refine ro_aload_n F dX6_count_52 0 rfl ?_
  refine ro_iload_n F dX6_count_53 1 rfl ?_
  refine mo_cV (rest := []) F hA (metX6_sumOf (gx_l g) X m (nI 1) tl nc nw cd cs wd htl ltl hnc (by omega) hnw (by omega) hcd lcd hcs lcs hwd lwd) cwX6_294 hdX6_sumOf rfl (Nat.le_of_ble_eq_true rfl) (Nat.le_of_ble_eq_true rfl) (Nat.le_refl _) (Nat.le_refl _) rfl (Nat.le_of_ble_eq_true rfl) dX6_count_54 ?_
  exact hret _ _ _ _ _ _ (Nat.le_refl _) (Nat.le_refl _) dX6_count_57 rfl ⟨congrArg (fun z => some (Value.int z)) (rfl), rfl⟩
noncomputable def rX6_count_2 (tl : Nat → Nat) : Nat := (tl 0)
set_option maxHeartbeats 4000000 in
set_option maxRecDepth 100000 in
theorem metX6_count_2 (l : Launch) (X : Mx) (m : Mem)  (tl : Nat → Nat) (htl : ∀ t, t < 2 → m 0 t = nI (tl t)) (ltl : ∀ t, tl t ≤ 31) : Cn l yX6_count (ws_ yX6_count cX6_count 2 (some .int)) 10 0 0 [.ref (mx_ad X 40), .int (nI 2)] (PicM X) (KM X) (mx_A X) m (fun rv_ w_ => rv_ = some (.int (nI (rX6_count_2 tl))) ∧ w_ = m) := by
  refine cn_i (own := RX6) rfl (Nat.le_of_ble_eq_true rfl) rfl (fun g hgl hA F hret => ?_)
  refine Wd.eql (lv' := [(0, .ref (mx_ad X 40)), (1, .int (nI 2))]) rfl ?_
  refine ro_iload_n F dX6_count_0 1 rfl ?_
  refine ro_tableIn (tgt := 58) F dX6_count_1 (by decide) (by decide) rfl (by decide) ?_
  refine ro_aload_n F dX6_count_58 0 rfl ?_
  refine mo_gr F 0 (Nat.le_of_ble_eq_true rfl) (by decide) lkX6_7 rfl dX6_count_59 ?_
  refine ro_iload_n F dX6_count_62 1 rfl ?_
  refine ro_iconst (v := (nI 2)) F dX6_count_63 (by decide) ?_
  refine ro_isubN F (by omega) dX6_count_64 ?_
  have hz := ltl 0
  refine mo_ldN F 0 2 rfl (by decide) (by decide) rfl (by omega) dX6_count_65 (htl 0 (by omega)) ?_
  exact hret _ _ _ _ _ _ (Nat.le_refl _) (Nat.le_refl _) dX6_count_66 rfl ⟨congrArg (fun z => some (Value.int z)) (rfl), rfl⟩
noncomputable def rX6_count_3 (tl : Nat → Nat) : Nat := (tl 1)
set_option maxHeartbeats 4000000 in
set_option maxRecDepth 100000 in
theorem metX6_count_3 (l : Launch) (X : Mx) (m : Mem)  (tl : Nat → Nat) (htl : ∀ t, t < 2 → m 0 t = nI (tl t)) (ltl : ∀ t, tl t ≤ 31) : Cn l yX6_count (ws_ yX6_count cX6_count 2 (some .int)) 10 0 0 [.ref (mx_ad X 40), .int (nI 3)] (PicM X) (KM X) (mx_A X) m (fun rv_ w_ => rv_ = some (.int (nI (rX6_count_3 tl))) ∧ w_ = m) := by
  refine cn_i (own := RX6) rfl (Nat.le_of_ble_eq_true rfl) rfl (fun g hgl hA F hret => ?_)
  refine Wd.eql (lv' := [(0, .ref (mx_ad X 40)), (1, .int (nI 3))]) rfl ?_
  refine ro_iload_n F dX6_count_0 1 rfl ?_
  refine ro_tableIn (tgt := 58) F dX6_count_1 (by decide) (by decide) rfl (by decide) ?_
  refine ro_aload_n F dX6_count_58 0 rfl ?_
  refine mo_gr F 0 (Nat.le_of_ble_eq_true rfl) (by decide) lkX6_7 rfl dX6_count_59 ?_
  refine ro_iload_n F dX6_count_62 1 rfl ?_
  refine ro_iconst (v := (nI 2)) F dX6_count_63 (by decide) ?_
  refine ro_isubN F (by omega) dX6_count_64 ?_
  have hz := ltl 1
  refine mo_ldN F 0 2 rfl (by decide) (by decide) rfl (by omega) dX6_count_65 (htl 1 (by omega)) ?_
  exact hret _ _ _ _ _ _ (Nat.le_refl _) (Nat.le_refl _) dX6_count_66 rfl ⟨congrArg (fun z => some (Value.int z)) (rfl), rfl⟩
noncomputable def rX6_count_4 (nc : Nat) : Nat := nc
set_option maxHeartbeats 4000000 in
set_option maxRecDepth 100000 in
theorem metX6_count_4 (l : Launch) (X : Mx) (m : Mem)  (nc : Nat) (hnc : m 11 0 = nI nc) (lnc : nc ≤ 8) : Cn l yX6_count (ws_ yX6_count cX6_count 2 (some .int)) 10 0 0 [.ref (mx_ad X 40), .int (nI 4)] (PicM X) (KM X) (mx_A X) m (fun rv_ w_ => rv_ = some (.int (nI (rX6_count_4 nc))) ∧ w_ = m) := by
  refine cn_i (own := RX6) rfl (Nat.le_of_ble_eq_true rfl) rfl (fun g hgl hA F hret => ?_)
  refine Wd.eql (lv' := [(0, .ref (mx_ad X 40)), (1, .int (nI 4))]) rfl ?_
  refine ro_iload_n F dX6_count_0 1 rfl ?_
  refine ro_tableIn (tgt := 67) F dX6_count_1 (by decide) (by decide) rfl (by decide) ?_
  refine ro_aload_n F dX6_count_67 0 rfl ?_
  refine mo_gi F 11 (Nat.le_of_ble_eq_true rfl) rfl lkX6_156 rfl dX6_count_68 hnc ?_
  exact hret _ _ _ _ _ _ (Nat.le_refl _) (Nat.le_refl _) dX6_count_71 rfl ⟨congrArg (fun z => some (Value.int z)) (rfl), rfl⟩
noncomputable def rX6_count_5 (nw : Nat) : Nat := nw
set_option maxHeartbeats 4000000 in
set_option maxRecDepth 100000 in
theorem metX6_count_5 (l : Launch) (X : Mx) (m : Mem)  (nw : Nat) (hnw : m 14 0 = nI nw) (lnw : nw ≤ 6) : Cn l yX6_count (ws_ yX6_count cX6_count 2 (some .int)) 10 0 0 [.ref (mx_ad X 40), .int (nI 5)] (PicM X) (KM X) (mx_A X) m (fun rv_ w_ => rv_ = some (.int (nI (rX6_count_5 nw))) ∧ w_ = m) := by
  refine cn_i (own := RX6) rfl (Nat.le_of_ble_eq_true rfl) rfl (fun g hgl hA F hret => ?_)
  refine Wd.eql (lv' := [(0, .ref (mx_ad X 40)), (1, .int (nI 5))]) rfl ?_
  refine ro_iload_n F dX6_count_0 1 rfl ?_
  refine ro_tableIn (tgt := 72) F dX6_count_1 (by decide) (by decide) rfl (by decide) ?_
  refine ro_aload_n F dX6_count_72 0 rfl ?_
  refine mo_gi F 14 (Nat.le_of_ble_eq_true rfl) rfl lkX6_159 rfl dX6_count_73 hnw ?_
  exact hret _ _ _ _ _ _ (Nat.le_refl _) (Nat.le_refl _) dX6_count_76 rfl ⟨congrArg (fun z => some (Value.int z)) (rfl), rfl⟩
noncomputable def rX6_count_6 (tl : Nat → Nat) (nc : Nat) (nw : Nat) (cd : Nat → Nat) (cs : Nat → Nat) (wd : Nat → Nat) (m : Mem) : Int32 := (rX6_sumOf (nI 6) tl nc nw cd cs wd m)
noncomputable def fX6_count_6 (tl : Nat → Nat) (nc : Nat) (nw : Nat) (cd : Nat → Nat) (cs : Nat → Nat) (wd : Nat → Nat) (m : Mem) : Mem := (fX6_sumOf tl nc nw cd cs wd m)
theorem fr_fX6_count_6 (tl : Nat → Nat) (nc : Nat) (nw : Nat) (cd : Nat → Nat) (cs : Nat → Nat) (wd : Nat → Nat) (m : Mem) (f : Nat) (h2 : f ≠ 2) (h3 : f ≠ 3) (h4 : f ≠ 4) (h5 : f ≠ 5) (h6 : f ≠ 6) (h7 : f ≠ 7) (h8 : f ≠ 8) (h16 : f ≠ 16) (h17 : f ≠ 17) (h18 : f ≠ 18) (h19 : f ≠ 19) (h20 : f ≠ 20) (h21 : f ≠ 21) (h22 : f ≠ 22) (h23 : f ≠ 23) (h24 : f ≠ 24) (h25 : f ≠ 25) (h26 : f ≠ 26) (h27 : f ≠ 27) : fX6_count_6 tl nc nw cd cs wd m f = m f := (fr_fX6_sumOf tl nc nw cd cs wd m f h2 h3 h4 h5 h6 h7 h8 h16 h17 h18 h19 h20 h21 h22 h23 h24 h25 h26 h27).trans (rfl)
theorem gv_X6_count_6_2 (m : Mem)  (tl : Nat → Nat) (nc : Nat) (nw : Nat) (cd : Nat → Nat) (cs : Nat → Nat) (wd : Nat → Nat) (htl : ∀ t, t < 2 → m 0 t = nI (tl t)) (ltl : ∀ t, tl t ≤ 31) (hnc : m 11 0 = nI nc) (lnc : nc ≤ 8) (hnw : m 14 0 = nI nw) (lnw : nw ≤ 6) (hcd : ∀ j, j < nc → m 12 j = nI (cd j)) (lcd : ∀ j, j < nc → cd j < 20) (hcs : ∀ j, j < nc → m 13 j = nI (cs j)) (lcs : ∀ j, j < nc → cs j < 8) (hwd : ∀ j, j < nw → m 15 j = nI (wd j)) (lwd : ∀ j, j < nw → wd j < 20) : fX6_count_6 tl nc nw cd cs wd m 2 0 = (nI (nS tl m)) := show (fX6_sumOf tl nc nw cd cs wd m) 2 0 = _ from gv_X6_sumOf_2 m (nI 6) tl nc nw cd cs wd htl ltl hnc (by omega) hnw (by omega) hcd lcd hcs lcs hwd lwd
theorem gv_X6_count_6_6 (m : Mem)  (tl : Nat → Nat) (nc : Nat) (nw : Nat) (cd : Nat → Nat) (cs : Nat → Nat) (wd : Nat → Nat) (htl : ∀ t, t < 2 → m 0 t = nI (tl t)) (ltl : ∀ t, tl t ≤ 31) (hnc : m 11 0 = nI nc) (lnc : nc ≤ 8) (hnw : m 14 0 = nI nw) (lnw : nw ≤ 6) (hcd : ∀ j, j < nc → m 12 j = nI (cd j)) (lcd : ∀ j, j < nc → cd j < 20) (hcs : ∀ j, j < nc → m 13 j = nI (cs j)) (lcs : ∀ j, j < nc → cs j < 8) (hwd : ∀ j, j < nw → m 15 j = nI (wd j)) (lwd : ∀ j, j < nw → wd j < 20) : fX6_count_6 tl nc nw cd cs wd m 6 0 = (nI (nP tl m)) := show (fX6_sumOf tl nc nw cd cs wd m) 6 0 = _ from gv_X6_sumOf_6 m (nI 6) tl nc nw cd cs wd htl ltl hnc (by omega) hnw (by omega) hcd lcd hcs lcs hwd lwd
set_option maxHeartbeats 4000000 in
set_option maxRecDepth 100000 in
theorem metX6_count_6 (l : Launch) (X : Mx) (m : Mem)  (tl : Nat → Nat) (nc : Nat) (nw : Nat) (cd : Nat → Nat) (cs : Nat → Nat) (wd : Nat → Nat) (htl : ∀ t, t < 2 → m 0 t = nI (tl t)) (ltl : ∀ t, tl t ≤ 31) (hnc : m 11 0 = nI nc) (lnc : nc ≤ 8) (hnw : m 14 0 = nI nw) (lnw : nw ≤ 6) (hcd : ∀ j, j < nc → m 12 j = nI (cd j)) (lcd : ∀ j, j < nc → cd j < 20) (hcs : ∀ j, j < nc → m 13 j = nI (cs j)) (lcs : ∀ j, j < nc → cs j < 8) (hwd : ∀ j, j < nw → m 15 j = nI (wd j)) (lwd : ∀ j, j < nw → wd j < 20) : Cn l yX6_count (ws_ yX6_count cX6_count 2 (some .int)) 10 0 0 [.ref (mx_ad X 40), .int (nI 6)] (PicM X) (KM X) (mx_A X) m (fun rv_ w_ => rv_ = some (.int (rX6_count_6 tl nc nw cd cs wd m)) ∧ w_ = (fX6_count_6 tl nc nw cd cs wd m)) := by
  refine cn_i (own := RX6) rfl (Nat.le_of_ble_eq_true rfl) rfl (fun g hgl hA F hret => ?_)
  refine Wd.eql (lv' := [(0, .ref (mx_ad X 40)), (1, .int (nI 6))]) rfl ?_
  refine ro_iload_n F dX6_count_0 1 rfl ?_
  refine ro_tableIn (tgt := 52) F dX6_count_1 (by decide) (by decide) rfl (by decide) ?_
  refine ro_aload_n F dX6_count_52 0 rfl ?_
  refine ro_iload_n F dX6_count_53 1 rfl ?_
  refine mo_cV (rest := []) F hA (metX6_sumOf (gx_l g) X m (nI 6) tl nc nw cd cs wd htl ltl hnc (by omega) hnw (by omega) hcd lcd hcs lcs hwd lwd) cwX6_294 hdX6_sumOf rfl (Nat.le_of_ble_eq_true rfl) (Nat.le_of_ble_eq_true rfl) (Nat.le_refl _) (Nat.le_refl _) rfl (Nat.le_of_ble_eq_true rfl) dX6_count_54 ?_
  exact hret _ _ _ _ _ _ (Nat.le_refl _) (Nat.le_refl _) dX6_count_57 rfl ⟨congrArg (fun z => some (Value.int z)) (rfl), rfl⟩
noncomputable def rX6_count_7 (ne : Nat) : Nat := ne
set_option maxHeartbeats 4000000 in
set_option maxRecDepth 100000 in
theorem metX6_count_7 (l : Launch) (X : Mx) (m : Mem)  (ne : Nat) (hne : m 29 0 = nI ne) (lne : ne ≤ 8) : Cn l yX6_count (ws_ yX6_count cX6_count 2 (some .int)) 10 0 0 [.ref (mx_ad X 40), .int (nI 7)] (PicM X) (KM X) (mx_A X) m (fun rv_ w_ => rv_ = some (.int (nI (rX6_count_7 ne))) ∧ w_ = m) := by
  refine cn_i (own := RX6) rfl (Nat.le_of_ble_eq_true rfl) rfl (fun g hgl hA F hret => ?_)
  refine Wd.eql (lv' := [(0, .ref (mx_ad X 40)), (1, .int (nI 7))]) rfl ?_
  refine ro_iload_n F dX6_count_0 1 rfl ?_
  refine ro_tableIn (tgt := 77) F dX6_count_1 (by decide) (by decide) rfl (by decide) ?_
  refine ro_aload_n F dX6_count_77 0 rfl ?_
  refine mo_gi F 29 (Nat.le_of_ble_eq_true rfl) rfl lkX6_248 rfl dX6_count_78 hne ?_
  exact hret _ _ _ _ _ _ (Nat.le_refl _) (Nat.le_refl _) dX6_count_81 rfl ⟨congrArg (fun z => some (Value.int z)) (rfl), rfl⟩
noncomputable def rX6_count_8 (m : Mem) : Int32 := (m 39 0)
set_option maxHeartbeats 4000000 in
set_option maxRecDepth 100000 in
theorem metX6_count_8 (l : Launch) (X : Mx) (m : Mem)    : Cn l yX6_count (ws_ yX6_count cX6_count 2 (some .int)) 10 0 0 [.ref (mx_ad X 40), .int (nI 8)] (PicM X) (KM X) (mx_A X) m (fun rv_ w_ => rv_ = some (.int (rX6_count_8 m)) ∧ w_ = m) := by
  refine cn_i (own := RX6) rfl (Nat.le_of_ble_eq_true rfl) rfl (fun g hgl hA F hret => ?_)
  refine Wd.eql (lv' := [(0, .ref (mx_ad X 40)), (1, .int (nI 8))]) rfl ?_
  refine ro_iload_n F dX6_count_0 1 rfl ?_
  refine ro_tableIn (tgt := 82) F dX6_count_1 (by decide) (by decide) rfl (by decide) ?_
  refine ro_aload_n F dX6_count_82 0 rfl ?_
  refine mo_gi F 39 (Nat.le_of_ble_eq_true rfl) rfl lkX6_283 rfl dX6_count_83 rfl ?_
  exact hret _ _ _ _ _ _ (Nat.le_refl _) (Nat.le_refl _) dX6_count_86 rfl ⟨congrArg (fun z => some (Value.int z)) (rfl), rfl⟩
set_option maxHeartbeats 4000000 in
set_option maxRecDepth 100000 in
theorem metX6_count_no (l : Launch) (X : Mx) (m : Mem) (what : Int32)  (hb : ¬ (0 ≤ what.toInt ∧ what.toInt ≤ 8)) : Cn l yX6_count (ws_ yX6_count cX6_count 2 (some .int)) 10 0 0 [.ref (mx_ad X 40), .int what] (PicM X) (KM X) (mx_A X) m (fun rv_ w_ => rv_ = some (.int (-2)) ∧ w_ = m) := by
  refine cn_i (own := RX6) rfl (Nat.le_of_ble_eq_true rfl) rfl (fun g hgl hA F hret => ?_)
  refine Wd.eql (lv' := [(0, .ref (mx_ad X 40)), (1, .int what)]) rfl ?_
  refine ro_iload_n F dX6_count_0 1 rfl ?_
  refine ro_tableOut (tgt := 87) F dX6_count_1 (by omega) (by decide) ?_
  refine ro_bipush (v := (-2)) F dX6_count_87 (by decide) ?_
  exact hret _ _ _ _ _ _ (Nat.le_refl _) (Nat.le_refl _) dX6_count_89 rfl ⟨rfl, rfl⟩
noncomputable def lX6_write_a_35 (k : Nat) (s : Nat) (tl : Nat → Nat) (nc : Nat) (nw : Nat) (cd : Nat → Nat) (cs : Nat → Nat) (wd : Nat → Nat) (i35 : Nat) (b35 : Mem) : Mem := (fX6_keep s i35 (rX6_owedOf_k i35 k tl nc nw cd cs wd b35) (fX6_owedOf_k tl nc nw cd cs wd b35))
theorem fr_lX6_write_a_35 (k : Nat) (s : Nat) (tl : Nat → Nat) (nc : Nat) (nw : Nat) (cd : Nat → Nat) (cs : Nat → Nat) (wd : Nat → Nat) (i35 : Nat) (b35 : Mem) (f : Nat) (h2 : f ≠ 2) (h3 : f ≠ 3) (h4 : f ≠ 4) (h5 : f ≠ 5) (h6 : f ≠ 6) (h7 : f ≠ 7) (h8 : f ≠ 8) (h16 : f ≠ 16) (h17 : f ≠ 17) (h18 : f ≠ 18) (h19 : f ≠ 19) (h20 : f ≠ 20) (h21 : f ≠ 21) (h22 : f ≠ 22) (h23 : f ≠ 23) (h24 : f ≠ 24) (h25 : f ≠ 25) (h26 : f ≠ 26) (h27 : f ≠ 27) (h37 : f ≠ 37) : lX6_write_a_35 k s tl nc nw cd cs wd i35 b35 f = b35 f := (fr_fX6_keep s i35 (rX6_owedOf_k i35 k tl nc nw cd cs wd b35) (fX6_owedOf_k tl nc nw cd cs wd b35) f h37).trans ((fr_fX6_owedOf_k tl nc nw cd cs wd b35 f h2 h3 h4 h5 h6 h7 h8 h16 h17 h18 h19 h20 h21 h22 h23 h24 h25 h26 h27).trans (rfl))
theorem fi_lX6_write_a_35 (k : Nat) (s : Nat) (tl : Nat → Nat) (nc : Nat) (nw : Nat) (cd : Nat → Nat) (cs : Nat → Nat) (wd : Nat → Nat) (b35 : Mem) (n_ : Nat) (f : Nat) (h2 : f ≠ 2) (h3 : f ≠ 3) (h4 : f ≠ 4) (h5 : f ≠ 5) (h6 : f ≠ 6) (h7 : f ≠ 7) (h8 : f ≠ 8) (h16 : f ≠ 16) (h17 : f ≠ 17) (h18 : f ≠ 18) (h19 : f ≠ 19) (h20 : f ≠ 20) (h21 : f ≠ 21) (h22 : f ≠ 22) (h23 : f ≠ 23) (h24 : f ≠ 24) (h25 : f ≠ 25) (h26 : f ≠ 26) (h27 : f ≠ 27) (h37 : f ≠ 37) : (it (lX6_write_a_35 k s tl nc nw cd cs wd) b35 n_) f = b35 f := it_fr (fun i_ b_ => fr_lX6_write_a_35 k s tl nc nw cd cs wd i_ b_ f h2 h3 h4 h5 h6 h7 h8 h16 h17 h18 h19 h20 h21 h22 h23 h24 h25 h26 h27 h37) n_
noncomputable def rX6_write_a (s : Nat) (sz : Nat → Nat) (m : Mem) : Int32 := (if (m 34 s) = 0 then (rX6_meets (nI 1)) else (nI (sz s)))
noncomputable def fX6_write_a (k : Nat) (s : Nat) (tl : Nat → Nat) (nc : Nat) (nw : Nat) (cd : Nat → Nat) (cs : Nat → Nat) (wd : Nat → Nat) (sz : Nat → Nat) (m : Mem) : Mem := (if (m 34 s) = 0 then (fX6_meets (nI 1) (fX6_isSaver tl m)) else (it (lX6_write_a_35 k s tl nc nw cd cs wd) (fX6_isSaver tl m) (sz s)))
theorem fr_fX6_write_a (k : Nat) (s : Nat) (tl : Nat → Nat) (nc : Nat) (nw : Nat) (cd : Nat → Nat) (cs : Nat → Nat) (wd : Nat → Nat) (sz : Nat → Nat) (m : Mem) (f : Nat) (h2 : f ≠ 2) (h3 : f ≠ 3) (h4 : f ≠ 4) (h5 : f ≠ 5) (h6 : f ≠ 6) (h7 : f ≠ 7) (h8 : f ≠ 8) (h16 : f ≠ 16) (h17 : f ≠ 17) (h18 : f ≠ 18) (h19 : f ≠ 19) (h20 : f ≠ 20) (h21 : f ≠ 21) (h22 : f ≠ 22) (h23 : f ≠ 23) (h24 : f ≠ 24) (h25 : f ≠ 25) (h26 : f ≠ 26) (h27 : f ≠ 27) (h37 : f ≠ 37) (h39 : f ≠ 39) : fX6_write_a k s tl nc nw cd cs wd sz m f = m f := ite_fr ((fr_fX6_meets (nI 1) (fX6_isSaver tl m) f h39).trans ((fr_fX6_isSaver tl m f h2 h3 h4 h5 h6 h7 h8).trans (rfl))) ((fi_lX6_write_a_35 k s tl nc nw cd cs wd (fX6_isSaver tl m) (sz s) f h2 h3 h4 h5 h6 h7 h8 h16 h17 h18 h19 h20 h21 h22 h23 h24 h25 h26 h27 h37).trans ((fr_fX6_isSaver tl m f h2 h3 h4 h5 h6 h7 h8).trans (rfl)))
set_option maxHeartbeats 4000000 in
set_option maxRecDepth 100000 in
theorem metX6_write_a (l : Launch) (X : Mx) (m : Mem) (k : Nat) (s : Nat) (tl : Nat → Nat) (nc : Nat) (nw : Nat) (cd : Nat → Nat) (cs : Nat → Nat) (wd : Nat → Nat) (sz : Nat → Nat) (htl : ∀ t, t < 2 → m 0 t = nI (tl t)) (ltl : ∀ t, tl t ≤ 31) (hnc : m 11 0 = nI nc) (lnc : nc ≤ 8) (hnw : m 14 0 = nI nw) (lnw : nw ≤ 6) (hcd : ∀ j, j < nc → m 12 j = nI (cd j)) (lcd : ∀ j, j < nc → cd j < 20) (hcs : ∀ j, j < nc → m 13 j = nI (cs j)) (lcs : ∀ j, j < nc → cs j < 8) (hwd : ∀ j, j < nw → m 15 j = nI (wd j)) (lwd : ∀ j, j < nw → wd j < 20) (hsz : ∀ j, j < 4 → m 36 j = nI (sz j)) (lsz : ∀ j, j < 4 → sz j < 61) (hk : k < nS tl m) (hs : s < 4) (hz20 : sz s ≤ 20) : Cn l yX6_write (ws_ yX6_write cX6_write 4 (some .int)) 10 0 0 [.ref (mx_ad X 40), .int (nI k), .int (nI s)] (PicM X) (KM X) (mx_A X) m (fun rv_ w_ => rv_ = some (.int (rX6_write_a s sz m)) ∧ w_ = (fX6_write_a k s tl nc nw cd cs wd sz m)) := by
  refine cn_i (own := RX6) rfl (Nat.le_of_ble_eq_true rfl) rfl (fun g hgl hA F hret => ?_)
  refine Wd.eql (lv' := [(0, .ref (mx_ad X 40)), (1, .int (nI k)), (2, .int (nI s))]) rfl ?_
  have hzS := lS tl m
  have hzz := lsz s hs
  refine ro_aload_n F dX6_write_0 0 rfl ?_
  refine ro_iload_n F dX6_write_1 1 rfl ?_
  refine mo_cV (rest := []) F hA (metX6_isSaver (gx_l g) X m (nI k) tl htl ltl) cwX6_144 hdX6_isSaver rfl (Nat.le_of_ble_eq_true rfl) (Nat.le_of_ble_eq_true rfl) (Nat.le_refl _) (Nat.le_refl _) rfl (Nat.le_of_ble_eq_true rfl) dX6_write_2 ?_
  refine ro_if_eqB (tgt := 15) F dX6_write_5 (by decide) (fun c5 => absurd (isv_ok hk (Nat.le_trans (lS _ _) (by decide))) c5) (fun c5 => ?_)
  refine ro_iload_n F dX6_write_8 2 rfl ?_
  refine mo_cS (rest := []) F hA (metX6_isSheet (gx_l g) X (fX6_isSaver tl m) (nI s) ) cwX6_162 hdX6_isSheet rfl (Nat.le_of_ble_eq_true rfl) (Nat.le_of_ble_eq_true rfl) (Nat.le_refl _) (Nat.le_refl _) rfl (Nat.le_of_ble_eq_true rfl) dX6_write_9 ?_
  refine ro_if_neB (tgt := 18) F dX6_write_12 (by decide) (fun c12 => ?_) (fun c12 => absurd (in_ok (by omega) (by omega) (by decide)) c12)
  refine ro_aload_n F dX6_write_18 0 rfl ?_
  refine mo_gr F 34 (Nat.le_of_ble_eq_true rfl) (by decide) lkX6_80 rfl dX6_write_19 ?_
  refine ro_iload_n F dX6_write_22 2 rfl ?_
  refine mo_ldZ F 34 4 rfl (by decide) (by decide) rfl (by omega) dX6_write_23 (congrFun (fr_fX6_isSaver tl m 34 (by decide) (by decide) (by decide) (by decide) (by decide) (by decide) (by decide)) s) ?_
  refine ro_if_ne (tgt := 33) F dX6_write_24 (by decide) (fun c24 => ?_) (fun c24 => ?_)
  · refine ro_iconst (v := (nI 0)) F dX6_write_33 (by decide) ?_
    refine ro_istore_n (lv' := [(0, .ref (mx_ad X 40)), (1, .int (nI k)), (2, .int (nI s)), (3, .int (nI 0))]) F dX6_write_34 (Nat.le_of_ble_eq_true rfl) [1, 2, 3, 0] rfl ?_
    refine it_loop (sz s) (lX6_write_a_35 k s tl nc nw cd cs wd) (fX6_isSaver tl m) (fun (_ : Nat) (b35 : Mem) => ∀ f : Nat, f ≠ 2 → f ≠ 3 → f ≠ 4 → f ≠ 5 → f ≠ 6 → f ≠ 7 → f ≠ 8 → f ≠ 16 → f ≠ 17 → f ≠ 18 → f ≠ 19 → f ≠ 20 → f ≠ 21 → f ≠ 22 → f ≠ 23 → f ≠ 24 → f ≠ 25 → f ≠ 26 → f ≠ 27 → f ≠ 37 → b35 f = (fX6_isSaver tl m) f) (fun (i35 : Nat) (b35 : Mem) => Wd (PicM X) g 4 b35 0 0 35 [(0, .ref (mx_ad X 40)), (1, .int (nI k)), (2, .int (nI s)), (3, .int (nI i35))] []) (fun f _ _ _ _ _ _ _ _ _ _ _ _ _ _ _ _ _ _ _ _ => rfl) (fun i_ b_ _ hb f h2 h3 h4 h5 h6 h7 h8 h16 h17 h18 h19 h20 h21 h22 h23 h24 h25 h26 h27 h37 => (fr_lX6_write_a_35 k s tl nc nw cd cs wd i_ b_ f h2 h3 h4 h5 h6 h7 h8 h16 h17 h18 h19 h20 h21 h22 h23 h24 h25 h26 h27 h37).trans (hb f h2 h3 h4 h5 h6 h7 h8 h16 h17 h18 h19 h20 h21 h22 h23 h24 h25 h26 h27 h37)) (fun i35 b35 hi35 hf35 ih35 => ?_) (fun b35 hf35 he35 => ?_)
    · refine ro_iload_n F dX6_write_35 3 rfl ?_
      refine ro_aload_n F dX6_write_36 0 rfl ?_
      refine mo_gr F 36 (Nat.le_of_ble_eq_true rfl) (by decide) lkX6_86 rfl dX6_write_37 ?_
      refine ro_iload_n F dX6_write_40 2 rfl ?_
      have hz := lsz s (by omega)
      refine mo_ldN F 36 4 rfl (by decide) (by decide) rfl (by omega) dX6_write_41 ((congrFun (hf35 36 (by decide) (by decide) (by decide) (by decide) (by decide) (by decide) (by decide) (by decide) (by decide) (by decide) (by decide) (by decide) (by decide) (by decide) (by decide) (by decide) (by decide) (by decide) (by decide) (by decide)) s).trans ((congrFun (fr_fX6_isSaver tl m 36 (by decide) (by decide) (by decide) (by decide) (by decide) (by decide) (by decide)) s).trans (hsz s (by omega)))) ?_
      refine ro_icmp_geN (tgt := 69) F dX6_write_42 (by decide) (by omega) (by omega) (fun c42 => absurd c42 (by omega)) (fun c42 => ?_)
      refine ro_iload_n F dX6_write_45 3 rfl ?_
      refine ro_bipush (v := (nI 20)) F dX6_write_46 (by decide) ?_
      refine ro_icmp_geN (tgt := 69) F dX6_write_48 (by decide) (by omega) (by omega) (fun c48 => absurd c48 (by omega)) (fun c48 => ?_)
      refine ro_aload_n F dX6_write_51 0 rfl ?_
      refine ro_iload_n F dX6_write_52 2 rfl ?_
      refine ro_iload_n F dX6_write_53 3 rfl ?_
      refine ro_aload_n F dX6_write_54 0 rfl ?_
      refine ro_iload_n F dX6_write_55 3 rfl ?_
      refine ro_iload_n F dX6_write_56 1 rfl ?_
      refine mo_cV (rest := [.int (nI i35), .int (nI s), .ref (mx_ad X 40)]) F hA (metX6_owedOf_k (gx_l g) X b35 i35 k tl nc nw cd cs wd (by rw [show b35 0 = _ from (hf35 0 (by decide) (by decide) (by decide) (by decide) (by decide) (by decide) (by decide) (by decide) (by decide) (by decide) (by decide) (by decide) (by decide) (by decide) (by decide) (by decide) (by decide) (by decide) (by decide) (by decide)).trans (fr_fX6_isSaver tl m 0 (by decide) (by decide) (by decide) (by decide) (by decide) (by decide) (by decide))]; exact htl) ltl ((congrFun (hf35 11 (by decide) (by decide) (by decide) (by decide) (by decide) (by decide) (by decide) (by decide) (by decide) (by decide) (by decide) (by decide) (by decide) (by decide) (by decide) (by decide) (by decide) (by decide) (by decide) (by decide)) 0).trans ((congrFun (fr_fX6_isSaver tl m 11 (by decide) (by decide) (by decide) (by decide) (by decide) (by decide) (by decide)) 0).trans (hnc))) (by omega) ((congrFun (hf35 14 (by decide) (by decide) (by decide) (by decide) (by decide) (by decide) (by decide) (by decide) (by decide) (by decide) (by decide) (by decide) (by decide) (by decide) (by decide) (by decide) (by decide) (by decide) (by decide) (by decide)) 0).trans ((congrFun (fr_fX6_isSaver tl m 14 (by decide) (by decide) (by decide) (by decide) (by decide) (by decide) (by decide)) 0).trans (hnw))) (by omega) (by rw [show b35 12 = _ from (hf35 12 (by decide) (by decide) (by decide) (by decide) (by decide) (by decide) (by decide) (by decide) (by decide) (by decide) (by decide) (by decide) (by decide) (by decide) (by decide) (by decide) (by decide) (by decide) (by decide) (by decide)).trans (fr_fX6_isSaver tl m 12 (by decide) (by decide) (by decide) (by decide) (by decide) (by decide) (by decide))]; exact hcd) lcd (by rw [show b35 13 = _ from (hf35 13 (by decide) (by decide) (by decide) (by decide) (by decide) (by decide) (by decide) (by decide) (by decide) (by decide) (by decide) (by decide) (by decide) (by decide) (by decide) (by decide) (by decide) (by decide) (by decide) (by decide)).trans (fr_fX6_isSaver tl m 13 (by decide) (by decide) (by decide) (by decide) (by decide) (by decide) (by decide))]; exact hcs) lcs (by rw [show b35 15 = _ from (hf35 15 (by decide) (by decide) (by decide) (by decide) (by decide) (by decide) (by decide) (by decide) (by decide) (by decide) (by decide) (by decide) (by decide) (by decide) (by decide) (by decide) (by decide) (by decide) (by decide) (by decide)).trans (fr_fX6_isSaver tl m 15 (by decide) (by decide) (by decide) (by decide) (by decide) (by decide) (by decide))]; exact hwd) lwd (by omega) (by omega)) cwX6_213 hdX6_owedOf rfl (Nat.le_of_ble_eq_true rfl) (Nat.le_of_ble_eq_true rfl) (Nat.le_refl _) (Nat.le_refl _) rfl (Nat.le_of_ble_eq_true rfl) dX6_write_57 ?_
      refine mo_cV (rest := []) F hA (metX6_keep (gx_l g) X (fX6_owedOf_k tl nc nw cd cs wd b35) s i35 (rX6_owedOf_k i35 k tl nc nw cd cs wd b35) (by omega) (by omega)) cwX6_289 hdX6_keep rfl (Nat.le_of_ble_eq_true rfl) (Nat.le_of_ble_eq_true rfl) (Nat.le_refl _) (Nat.le_refl _) rfl (Nat.le_of_ble_eq_true rfl) dX6_write_60 ?_
      refine ro_iincN (z := 1) (lv' := [(0, .ref (mx_ad X 40)), (1, .int (nI k)), (2, .int (nI s)), (3, .int (nI (i35 + 1)))]) F dX6_write_63 3 rfl (Nat.le_of_ble_eq_true rfl) [1, 2, 3, 0] rfl ?_
      refine ro_goto (tgt := 35) F dX6_write_66 (by decide) ?_
      exact ih35
    subst he35
    refine ro_iload_n F dX6_write_35 3 rfl ?_
    refine ro_aload_n F dX6_write_36 0 rfl ?_
    refine mo_gr F 36 (Nat.le_of_ble_eq_true rfl) (by decide) lkX6_86 rfl dX6_write_37 ?_
    refine ro_iload_n F dX6_write_40 2 rfl ?_
    have hz := lsz s (by omega)
    refine mo_ldN F 36 4 rfl (by decide) (by decide) rfl (by omega) dX6_write_41 ((congrFun (fi_lX6_write_a_35 k s tl nc nw cd cs wd (fX6_isSaver tl m) (sz s) 36 (by decide) (by decide) (by decide) (by decide) (by decide) (by decide) (by decide) (by decide) (by decide) (by decide) (by decide) (by decide) (by decide) (by decide) (by decide) (by decide) (by decide) (by decide) (by decide) (by decide)) s).trans ((congrFun (fr_fX6_isSaver tl m 36 (by decide) (by decide) (by decide) (by decide) (by decide) (by decide) (by decide)) s).trans (hsz s (by omega)))) ?_
    refine ro_icmp_geN (tgt := 69) F dX6_write_42 (by decide) (by omega) (by omega) (fun c42 => ?_) (fun c42 => absurd c42 (by omega))
    refine ro_iload_n F dX6_write_69 3 rfl ?_
    exact hret _ _ _ _ _ _ (Nat.le_refl _) (Nat.le_refl _) dX6_write_70 rfl ⟨congrArg (fun z => some (Value.int z)) (by simp only [rX6_write_a, if_pos c5, if_pos c12, if_neg c24]), (by simp only [fX6_write_a, if_pos c5, if_pos c12, if_neg c24])⟩
  · refine ro_aload_n F dX6_write_27 0 rfl ?_
    refine ro_iconst (v := (nI 1)) F dX6_write_28 (by decide) ?_
    refine mo_cV (rest := []) F hA (metX6_meets (gx_l g) X (fX6_isSaver tl m) (nI 1) ) cwX6_165 hdX6_meets rfl (Nat.le_of_ble_eq_true rfl) (Nat.le_of_ble_eq_true rfl) (Nat.le_refl _) (Nat.le_refl _) rfl (Nat.le_of_ble_eq_true rfl) dX6_write_29 ?_
    exact hret _ _ _ _ _ _ (Nat.le_refl _) (Nat.le_refl _) dX6_write_32 rfl ⟨congrArg (fun z => some (Value.int z)) (by simp only [rX6_write_a, if_pos c5, if_pos c12, if_pos c24]), (by simp only [fX6_write_a, if_pos c5, if_pos c12, if_pos c24])⟩
noncomputable def lX6_write_b_35 (k : Nat) (s : Nat) (tl : Nat → Nat) (nc : Nat) (nw : Nat) (cd : Nat → Nat) (cs : Nat → Nat) (wd : Nat → Nat) (i35 : Nat) (b35 : Mem) : Mem := (fX6_keep s i35 (rX6_owedOf_k i35 k tl nc nw cd cs wd b35) (fX6_owedOf_k tl nc nw cd cs wd b35))
theorem fr_lX6_write_b_35 (k : Nat) (s : Nat) (tl : Nat → Nat) (nc : Nat) (nw : Nat) (cd : Nat → Nat) (cs : Nat → Nat) (wd : Nat → Nat) (i35 : Nat) (b35 : Mem) (f : Nat) (h2 : f ≠ 2) (h3 : f ≠ 3) (h4 : f ≠ 4) (h5 : f ≠ 5) (h6 : f ≠ 6) (h7 : f ≠ 7) (h8 : f ≠ 8) (h16 : f ≠ 16) (h17 : f ≠ 17) (h18 : f ≠ 18) (h19 : f ≠ 19) (h20 : f ≠ 20) (h21 : f ≠ 21) (h22 : f ≠ 22) (h23 : f ≠ 23) (h24 : f ≠ 24) (h25 : f ≠ 25) (h26 : f ≠ 26) (h27 : f ≠ 27) (h37 : f ≠ 37) : lX6_write_b_35 k s tl nc nw cd cs wd i35 b35 f = b35 f := (fr_fX6_keep s i35 (rX6_owedOf_k i35 k tl nc nw cd cs wd b35) (fX6_owedOf_k tl nc nw cd cs wd b35) f h37).trans ((fr_fX6_owedOf_k tl nc nw cd cs wd b35 f h2 h3 h4 h5 h6 h7 h8 h16 h17 h18 h19 h20 h21 h22 h23 h24 h25 h26 h27).trans (rfl))
theorem fi_lX6_write_b_35 (k : Nat) (s : Nat) (tl : Nat → Nat) (nc : Nat) (nw : Nat) (cd : Nat → Nat) (cs : Nat → Nat) (wd : Nat → Nat) (b35 : Mem) (n_ : Nat) (f : Nat) (h2 : f ≠ 2) (h3 : f ≠ 3) (h4 : f ≠ 4) (h5 : f ≠ 5) (h6 : f ≠ 6) (h7 : f ≠ 7) (h8 : f ≠ 8) (h16 : f ≠ 16) (h17 : f ≠ 17) (h18 : f ≠ 18) (h19 : f ≠ 19) (h20 : f ≠ 20) (h21 : f ≠ 21) (h22 : f ≠ 22) (h23 : f ≠ 23) (h24 : f ≠ 24) (h25 : f ≠ 25) (h26 : f ≠ 26) (h27 : f ≠ 27) (h37 : f ≠ 37) : (it (lX6_write_b_35 k s tl nc nw cd cs wd) b35 n_) f = b35 f := it_fr (fun i_ b_ => fr_lX6_write_b_35 k s tl nc nw cd cs wd i_ b_ f h2 h3 h4 h5 h6 h7 h8 h16 h17 h18 h19 h20 h21 h22 h23 h24 h25 h26 h27 h37) n_
noncomputable def rX6_write_b (s : Nat) (m : Mem) : Int32 := (if (m 34 s) = 0 then (rX6_meets (nI 1)) else (nI 20))
noncomputable def fX6_write_b (k : Nat) (s : Nat) (tl : Nat → Nat) (nc : Nat) (nw : Nat) (cd : Nat → Nat) (cs : Nat → Nat) (wd : Nat → Nat) (m : Mem) : Mem := (if (m 34 s) = 0 then (fX6_meets (nI 1) (fX6_isSaver tl m)) else (it (lX6_write_b_35 k s tl nc nw cd cs wd) (fX6_isSaver tl m) 20))
theorem fr_fX6_write_b (k : Nat) (s : Nat) (tl : Nat → Nat) (nc : Nat) (nw : Nat) (cd : Nat → Nat) (cs : Nat → Nat) (wd : Nat → Nat) (m : Mem) (f : Nat) (h2 : f ≠ 2) (h3 : f ≠ 3) (h4 : f ≠ 4) (h5 : f ≠ 5) (h6 : f ≠ 6) (h7 : f ≠ 7) (h8 : f ≠ 8) (h16 : f ≠ 16) (h17 : f ≠ 17) (h18 : f ≠ 18) (h19 : f ≠ 19) (h20 : f ≠ 20) (h21 : f ≠ 21) (h22 : f ≠ 22) (h23 : f ≠ 23) (h24 : f ≠ 24) (h25 : f ≠ 25) (h26 : f ≠ 26) (h27 : f ≠ 27) (h37 : f ≠ 37) (h39 : f ≠ 39) : fX6_write_b k s tl nc nw cd cs wd m f = m f := ite_fr ((fr_fX6_meets (nI 1) (fX6_isSaver tl m) f h39).trans ((fr_fX6_isSaver tl m f h2 h3 h4 h5 h6 h7 h8).trans (rfl))) ((fi_lX6_write_b_35 k s tl nc nw cd cs wd (fX6_isSaver tl m) 20 f h2 h3 h4 h5 h6 h7 h8 h16 h17 h18 h19 h20 h21 h22 h23 h24 h25 h26 h27 h37).trans ((fr_fX6_isSaver tl m f h2 h3 h4 h5 h6 h7 h8).trans (rfl)))
set_option maxHeartbeats 4000000 in
set_option maxRecDepth 100000 in
theorem metX6_write_b (l : Launch) (X : Mx) (m : Mem) (k : Nat) (s : Nat) (tl : Nat → Nat) (nc : Nat) (nw : Nat) (cd : Nat → Nat) (cs : Nat → Nat) (wd : Nat → Nat) (sz : Nat → Nat) (htl : ∀ t, t < 2 → m 0 t = nI (tl t)) (ltl : ∀ t, tl t ≤ 31) (hnc : m 11 0 = nI nc) (lnc : nc ≤ 8) (hnw : m 14 0 = nI nw) (lnw : nw ≤ 6) (hcd : ∀ j, j < nc → m 12 j = nI (cd j)) (lcd : ∀ j, j < nc → cd j < 20) (hcs : ∀ j, j < nc → m 13 j = nI (cs j)) (lcs : ∀ j, j < nc → cs j < 8) (hwd : ∀ j, j < nw → m 15 j = nI (wd j)) (lwd : ∀ j, j < nw → wd j < 20) (hsz : ∀ j, j < 4 → m 36 j = nI (sz j)) (lsz : ∀ j, j < 4 → sz j < 61) (hk : k < nS tl m) (hs : s < 4) (hz20 : 20 < sz s) : Cn l yX6_write (ws_ yX6_write cX6_write 4 (some .int)) 10 0 0 [.ref (mx_ad X 40), .int (nI k), .int (nI s)] (PicM X) (KM X) (mx_A X) m (fun rv_ w_ => rv_ = some (.int (rX6_write_b s m)) ∧ w_ = (fX6_write_b k s tl nc nw cd cs wd m)) := by
  refine cn_i (own := RX6) rfl (Nat.le_of_ble_eq_true rfl) rfl (fun g hgl hA F hret => ?_)
  refine Wd.eql (lv' := [(0, .ref (mx_ad X 40)), (1, .int (nI k)), (2, .int (nI s))]) rfl ?_
  have hzS := lS tl m
  have hzz := lsz s hs
  refine ro_aload_n F dX6_write_0 0 rfl ?_
  refine ro_iload_n F dX6_write_1 1 rfl ?_
  refine mo_cV (rest := []) F hA (metX6_isSaver (gx_l g) X m (nI k) tl htl ltl) cwX6_144 hdX6_isSaver rfl (Nat.le_of_ble_eq_true rfl) (Nat.le_of_ble_eq_true rfl) (Nat.le_refl _) (Nat.le_refl _) rfl (Nat.le_of_ble_eq_true rfl) dX6_write_2 ?_
  refine ro_if_eqB (tgt := 15) F dX6_write_5 (by decide) (fun c5 => absurd (isv_ok hk (Nat.le_trans (lS _ _) (by decide))) c5) (fun c5 => ?_)
  refine ro_iload_n F dX6_write_8 2 rfl ?_
  refine mo_cS (rest := []) F hA (metX6_isSheet (gx_l g) X (fX6_isSaver tl m) (nI s) ) cwX6_162 hdX6_isSheet rfl (Nat.le_of_ble_eq_true rfl) (Nat.le_of_ble_eq_true rfl) (Nat.le_refl _) (Nat.le_refl _) rfl (Nat.le_of_ble_eq_true rfl) dX6_write_9 ?_
  refine ro_if_neB (tgt := 18) F dX6_write_12 (by decide) (fun c12 => ?_) (fun c12 => absurd (in_ok (by omega) (by omega) (by decide)) c12)
  refine ro_aload_n F dX6_write_18 0 rfl ?_
  refine mo_gr F 34 (Nat.le_of_ble_eq_true rfl) (by decide) lkX6_80 rfl dX6_write_19 ?_
  refine ro_iload_n F dX6_write_22 2 rfl ?_
  refine mo_ldZ F 34 4 rfl (by decide) (by decide) rfl (by omega) dX6_write_23 (congrFun (fr_fX6_isSaver tl m 34 (by decide) (by decide) (by decide) (by decide) (by decide) (by decide) (by decide)) s) ?_
  refine ro_if_ne (tgt := 33) F dX6_write_24 (by decide) (fun c24 => ?_) (fun c24 => ?_)
  · refine ro_iconst (v := (nI 0)) F dX6_write_33 (by decide) ?_
    refine ro_istore_n (lv' := [(0, .ref (mx_ad X 40)), (1, .int (nI k)), (2, .int (nI s)), (3, .int (nI 0))]) F dX6_write_34 (Nat.le_of_ble_eq_true rfl) [1, 2, 3, 0] rfl ?_
    refine it_loop 20 (lX6_write_b_35 k s tl nc nw cd cs wd) (fX6_isSaver tl m) (fun (_ : Nat) (b35 : Mem) => ∀ f : Nat, f ≠ 2 → f ≠ 3 → f ≠ 4 → f ≠ 5 → f ≠ 6 → f ≠ 7 → f ≠ 8 → f ≠ 16 → f ≠ 17 → f ≠ 18 → f ≠ 19 → f ≠ 20 → f ≠ 21 → f ≠ 22 → f ≠ 23 → f ≠ 24 → f ≠ 25 → f ≠ 26 → f ≠ 27 → f ≠ 37 → b35 f = (fX6_isSaver tl m) f) (fun (i35 : Nat) (b35 : Mem) => Wd (PicM X) g 4 b35 0 0 35 [(0, .ref (mx_ad X 40)), (1, .int (nI k)), (2, .int (nI s)), (3, .int (nI i35))] []) (fun f _ _ _ _ _ _ _ _ _ _ _ _ _ _ _ _ _ _ _ _ => rfl) (fun i_ b_ _ hb f h2 h3 h4 h5 h6 h7 h8 h16 h17 h18 h19 h20 h21 h22 h23 h24 h25 h26 h27 h37 => (fr_lX6_write_b_35 k s tl nc nw cd cs wd i_ b_ f h2 h3 h4 h5 h6 h7 h8 h16 h17 h18 h19 h20 h21 h22 h23 h24 h25 h26 h27 h37).trans (hb f h2 h3 h4 h5 h6 h7 h8 h16 h17 h18 h19 h20 h21 h22 h23 h24 h25 h26 h27 h37)) (fun i35 b35 hi35 hf35 ih35 => ?_) (fun b35 hf35 he35 => ?_)
    · refine ro_iload_n F dX6_write_35 3 rfl ?_
      refine ro_aload_n F dX6_write_36 0 rfl ?_
      refine mo_gr F 36 (Nat.le_of_ble_eq_true rfl) (by decide) lkX6_86 rfl dX6_write_37 ?_
      refine ro_iload_n F dX6_write_40 2 rfl ?_
      have hz := lsz s (by omega)
      refine mo_ldN F 36 4 rfl (by decide) (by decide) rfl (by omega) dX6_write_41 ((congrFun (hf35 36 (by decide) (by decide) (by decide) (by decide) (by decide) (by decide) (by decide) (by decide) (by decide) (by decide) (by decide) (by decide) (by decide) (by decide) (by decide) (by decide) (by decide) (by decide) (by decide) (by decide)) s).trans ((congrFun (fr_fX6_isSaver tl m 36 (by decide) (by decide) (by decide) (by decide) (by decide) (by decide) (by decide)) s).trans (hsz s (by omega)))) ?_
      refine ro_icmp_geN (tgt := 69) F dX6_write_42 (by decide) (by omega) (by omega) (fun c42 => absurd c42 (by omega)) (fun c42 => ?_)
      refine ro_iload_n F dX6_write_45 3 rfl ?_
      refine ro_bipush (v := (nI 20)) F dX6_write_46 (by decide) ?_
      refine ro_icmp_geN (tgt := 69) F dX6_write_48 (by decide) (by omega) (by omega) (fun c48 => absurd c48 (by omega)) (fun c48 => ?_)
      refine ro_aload_n F dX6_write_51 0 rfl ?_
      refine ro_iload_n F dX6_write_52 2 rfl ?_
      refine ro_iload_n F dX6_write_53 3 rfl ?_
      refine ro_aload_n F dX6_write_54 0 rfl ?_
      refine ro_iload_n F dX6_write_55 3 rfl ?_
      refine ro_iload_n F dX6_write_56 1 rfl ?_
      refine mo_cV (rest := [.int (nI i35), .int (nI s), .ref (mx_ad X 40)]) F hA (metX6_owedOf_k (gx_l g) X b35 i35 k tl nc nw cd cs wd (by rw [show b35 0 = _ from (hf35 0 (by decide) (by decide) (by decide) (by decide) (by decide) (by decide) (by decide) (by decide) (by decide) (by decide) (by decide) (by decide) (by decide) (by decide) (by decide) (by decide) (by decide) (by decide) (by decide) (by decide)).trans (fr_fX6_isSaver tl m 0 (by decide) (by decide) (by decide) (by decide) (by decide) (by decide) (by decide))]; exact htl) ltl ((congrFun (hf35 11 (by decide) (by decide) (by decide) (by decide) (by decide) (by decide) (by decide) (by decide) (by decide) (by decide) (by decide) (by decide) (by decide) (by decide) (by decide) (by decide) (by decide) (by decide) (by decide) (by decide)) 0).trans ((congrFun (fr_fX6_isSaver tl m 11 (by decide) (by decide) (by decide) (by decide) (by decide) (by decide) (by decide)) 0).trans (hnc))) (by omega) ((congrFun (hf35 14 (by decide) (by decide) (by decide) (by decide) (by decide) (by decide) (by decide) (by decide) (by decide) (by decide) (by decide) (by decide) (by decide) (by decide) (by decide) (by decide) (by decide) (by decide) (by decide) (by decide)) 0).trans ((congrFun (fr_fX6_isSaver tl m 14 (by decide) (by decide) (by decide) (by decide) (by decide) (by decide) (by decide)) 0).trans (hnw))) (by omega) (by rw [show b35 12 = _ from (hf35 12 (by decide) (by decide) (by decide) (by decide) (by decide) (by decide) (by decide) (by decide) (by decide) (by decide) (by decide) (by decide) (by decide) (by decide) (by decide) (by decide) (by decide) (by decide) (by decide) (by decide)).trans (fr_fX6_isSaver tl m 12 (by decide) (by decide) (by decide) (by decide) (by decide) (by decide) (by decide))]; exact hcd) lcd (by rw [show b35 13 = _ from (hf35 13 (by decide) (by decide) (by decide) (by decide) (by decide) (by decide) (by decide) (by decide) (by decide) (by decide) (by decide) (by decide) (by decide) (by decide) (by decide) (by decide) (by decide) (by decide) (by decide) (by decide)).trans (fr_fX6_isSaver tl m 13 (by decide) (by decide) (by decide) (by decide) (by decide) (by decide) (by decide))]; exact hcs) lcs (by rw [show b35 15 = _ from (hf35 15 (by decide) (by decide) (by decide) (by decide) (by decide) (by decide) (by decide) (by decide) (by decide) (by decide) (by decide) (by decide) (by decide) (by decide) (by decide) (by decide) (by decide) (by decide) (by decide) (by decide)).trans (fr_fX6_isSaver tl m 15 (by decide) (by decide) (by decide) (by decide) (by decide) (by decide) (by decide))]; exact hwd) lwd (by omega) (by omega)) cwX6_213 hdX6_owedOf rfl (Nat.le_of_ble_eq_true rfl) (Nat.le_of_ble_eq_true rfl) (Nat.le_refl _) (Nat.le_refl _) rfl (Nat.le_of_ble_eq_true rfl) dX6_write_57 ?_
      refine mo_cV (rest := []) F hA (metX6_keep (gx_l g) X (fX6_owedOf_k tl nc nw cd cs wd b35) s i35 (rX6_owedOf_k i35 k tl nc nw cd cs wd b35) (by omega) (by omega)) cwX6_289 hdX6_keep rfl (Nat.le_of_ble_eq_true rfl) (Nat.le_of_ble_eq_true rfl) (Nat.le_refl _) (Nat.le_refl _) rfl (Nat.le_of_ble_eq_true rfl) dX6_write_60 ?_
      refine ro_iincN (z := 1) (lv' := [(0, .ref (mx_ad X 40)), (1, .int (nI k)), (2, .int (nI s)), (3, .int (nI (i35 + 1)))]) F dX6_write_63 3 rfl (Nat.le_of_ble_eq_true rfl) [1, 2, 3, 0] rfl ?_
      refine ro_goto (tgt := 35) F dX6_write_66 (by decide) ?_
      exact ih35
    subst he35
    refine ro_iload_n F dX6_write_35 3 rfl ?_
    refine ro_aload_n F dX6_write_36 0 rfl ?_
    refine mo_gr F 36 (Nat.le_of_ble_eq_true rfl) (by decide) lkX6_86 rfl dX6_write_37 ?_
    refine ro_iload_n F dX6_write_40 2 rfl ?_
    have hz := lsz s (by omega)
    refine mo_ldN F 36 4 rfl (by decide) (by decide) rfl (by omega) dX6_write_41 ((congrFun (fi_lX6_write_b_35 k s tl nc nw cd cs wd (fX6_isSaver tl m) 20 36 (by decide) (by decide) (by decide) (by decide) (by decide) (by decide) (by decide) (by decide) (by decide) (by decide) (by decide) (by decide) (by decide) (by decide) (by decide) (by decide) (by decide) (by decide) (by decide) (by decide)) s).trans ((congrFun (fr_fX6_isSaver tl m 36 (by decide) (by decide) (by decide) (by decide) (by decide) (by decide) (by decide)) s).trans (hsz s (by omega)))) ?_
    refine ro_icmp_geN (tgt := 69) F dX6_write_42 (by decide) (by omega) (by omega) (fun c42 => absurd c42 (by omega)) (fun c42 => ?_)
    refine ro_iload_n F dX6_write_45 3 rfl ?_
    refine ro_bipush (v := (nI 20)) F dX6_write_46 (by decide) ?_
    refine ro_icmp_geN (tgt := 69) F dX6_write_48 (by decide) (by omega) (by omega) (fun c48 => ?_) (fun c48 => absurd c48 (by omega))
    refine ro_iload_n F dX6_write_69 3 rfl ?_
    exact hret _ _ _ _ _ _ (Nat.le_refl _) (Nat.le_refl _) dX6_write_70 rfl ⟨congrArg (fun z => some (Value.int z)) (by simp only [rX6_write_b, if_pos c5, if_pos c12, if_neg c24]), (by simp only [fX6_write_b, if_pos c5, if_pos c12, if_neg c24])⟩
  · refine ro_aload_n F dX6_write_27 0 rfl ?_
    refine ro_iconst (v := (nI 1)) F dX6_write_28 (by decide) ?_
    refine mo_cV (rest := []) F hA (metX6_meets (gx_l g) X (fX6_isSaver tl m) (nI 1) ) cwX6_165 hdX6_meets rfl (Nat.le_of_ble_eq_true rfl) (Nat.le_of_ble_eq_true rfl) (Nat.le_refl _) (Nat.le_refl _) rfl (Nat.le_of_ble_eq_true rfl) dX6_write_29 ?_
    exact hret _ _ _ _ _ _ (Nat.le_refl _) (Nat.le_refl _) dX6_write_32 rfl ⟨congrArg (fun z => some (Value.int z)) (by simp only [rX6_write_b, if_pos c5, if_pos c12, if_pos c24]), (by simp only [fX6_write_b, if_pos c5, if_pos c12, if_pos c24])⟩
noncomputable def fX6_write_no (tl : Nat → Nat) (m : Mem) : Mem := (fX6_isSaver tl m)
theorem fr_fX6_write_no (tl : Nat → Nat) (m : Mem) (f : Nat) (h2 : f ≠ 2) (h3 : f ≠ 3) (h4 : f ≠ 4) (h5 : f ≠ 5) (h6 : f ≠ 6) (h7 : f ≠ 7) (h8 : f ≠ 8) : fX6_write_no tl m f = m f := (fr_fX6_isSaver tl m f h2 h3 h4 h5 h6 h7 h8).trans (rfl)
set_option maxHeartbeats 4000000 in
set_option maxRecDepth 100000 in
theorem metX6_write_no (l : Launch) (X : Mx) (m : Mem) (k : Int32) (s : Int32) (tl : Nat → Nat) (htl : ∀ t, t < 2 → m 0 t = nI (tl t)) (ltl : ∀ t, tl t ≤ 31) (hb : ¬ (rX6_isSaver k tl m ∧ (¬ (s < nI 0) ∧ ¬ (nI 3 < s)))) : Cn l yX6_write (ws_ yX6_write cX6_write 4 (some .int)) 10 0 0 [.ref (mx_ad X 40), .int k, .int s] (PicM X) (KM X) (mx_A X) m (fun rv_ w_ => rv_ = some (.int (-2)) ∧ w_ = (fX6_write_no tl m)) := by
  refine cn_i (own := RX6) rfl (Nat.le_of_ble_eq_true rfl) rfl (fun g hgl hA F hret => ?_)
  refine Wd.eql (lv' := [(0, .ref (mx_ad X 40)), (1, .int k), (2, .int s)]) rfl ?_
  refine ro_aload_n F dX6_write_0 0 rfl ?_
  refine ro_iload_n F dX6_write_1 1 rfl ?_
  refine mo_cV (rest := []) F hA (metX6_isSaver (gx_l g) X m k tl htl ltl) cwX6_144 hdX6_isSaver rfl (Nat.le_of_ble_eq_true rfl) (Nat.le_of_ble_eq_true rfl) (Nat.le_refl _) (Nat.le_refl _) rfl (Nat.le_of_ble_eq_true rfl) dX6_write_2 ?_
  refine ro_if_eqB (tgt := 15) F dX6_write_5 (by decide) (fun c5 => ?_) (fun c5 => ?_)
  · refine ro_bipush (v := (-2)) F dX6_write_15 (by decide) ?_
    exact hret _ _ _ _ _ _ (Nat.le_refl _) (Nat.le_refl _) dX6_write_17 rfl ⟨rfl, rfl⟩
  · refine ro_iload_n F dX6_write_8 2 rfl ?_
    refine mo_cS (rest := []) F hA (metX6_isSheet (gx_l g) X (fX6_isSaver tl m) s ) cwX6_162 hdX6_isSheet rfl (Nat.le_of_ble_eq_true rfl) (Nat.le_of_ble_eq_true rfl) (Nat.le_refl _) (Nat.le_refl _) rfl (Nat.le_of_ble_eq_true rfl) dX6_write_9 ?_
    refine ro_if_neB (tgt := 18) F dX6_write_12 (by decide) (fun c12 => absurd ⟨c5, c12⟩ hb) (fun c12 => ?_)
    refine ro_bipush (v := (-2)) F dX6_write_15 (by decide) ?_
    exact hret _ _ _ _ _ _ (Nat.le_refl _) (Nat.le_refl _) dX6_write_17 rfl ⟨rfl, rfl⟩
