noncomputable def lX6_peaceOf_26 (c : Nat) (i9 : Nat) (i26 : Nat) (b26 : Int64) : Int64 := (b26 * (if (((nI i9) >>> ((nI i26) &&& 31)) &&& (nI 1)) = (nI 1) then ((nI (16 - c)).toInt64) else ((nI c).toInt64)))
noncomputable def lX6_peaceOf_9 (c : Nat) (tl : Nat → Nat) (nc : Nat) (nw : Nat) (cd : Nat → Nat) (cs : Nat → Nat) (wd : Nat → Nat) (m : Mem) (i9 : Nat) (b9 : Mem × Int64) : Mem × Int64 := ((fX6_runs (nP tl m) (nS tl m) (fX6_lays (nI 0) (nI i9) nc nw cd cs wd b9.1)), (b9.2 + (if ((fX6_runs (nP tl m) (nS tl m) (fX6_lays (nI 0) (nI i9) nc nw cd cs wd b9.1)) 25 0) = (-1) then (it (lX6_peaceOf_26 c i9) 1 nw) else 0)))
theorem fr_lX6_peaceOf_9 (c : Nat) (tl : Nat → Nat) (nc : Nat) (nw : Nat) (cd : Nat → Nat) (cs : Nat → Nat) (wd : Nat → Nat) (m : Mem) (i9 : Nat) (b9 : Mem × Int64) (f : Nat) (h17 : f ≠ 17) (h18 : f ≠ 18) (h19 : f ≠ 19) (h20 : f ≠ 20) (h21 : f ≠ 21) (h22 : f ≠ 22) (h23 : f ≠ 23) (h24 : f ≠ 24) (h25 : f ≠ 25) (h26 : f ≠ 26) (h27 : f ≠ 27) : (lX6_peaceOf_9 c tl nc nw cd cs wd m i9 b9).1 f = b9.1 f := (fr_fX6_runs (nP tl m) (nS tl m) (fX6_lays (nI 0) (nI i9) nc nw cd cs wd b9.1) f h19 h20 h21 h22 h23 h24 h25 h26 h27).trans ((fr_fX6_lays (nI 0) (nI i9) nc nw cd cs wd b9.1 f h17 h18).trans (rfl))
theorem fi_lX6_peaceOf_9 (c : Nat) (tl : Nat → Nat) (nc : Nat) (nw : Nat) (cd : Nat → Nat) (cs : Nat → Nat) (wd : Nat → Nat) (m : Mem) (b9 : Mem × Int64) (n_ : Nat) (f : Nat) (h17 : f ≠ 17) (h18 : f ≠ 18) (h19 : f ≠ 19) (h20 : f ≠ 20) (h21 : f ≠ 21) (h22 : f ≠ 22) (h23 : f ≠ 23) (h24 : f ≠ 24) (h25 : f ≠ 25) (h26 : f ≠ 26) (h27 : f ≠ 27) : (it (lX6_peaceOf_9 c tl nc nw cd cs wd m) b9 n_).1 f = b9.1 f := it_fr1 (fun i_ b_ => fr_lX6_peaceOf_9 c tl nc nw cd cs wd m i_ b_ f h17 h18 h19 h20 h21 h22 h23 h24 h25 h26 h27) n_
noncomputable def rX6_peaceOf (c : Nat) (what : Int32) (tl : Nat → Nat) (nc : Nat) (nw : Nat) (cd : Nat → Nat) (cs : Nat → Nat) (wd : Nat → Nat) (m : Mem) : Int64 := (if what = 0 then lN ((((it (lX6_peaceOf_9 c tl nc nw cd cs wd m) ((fX6_asTold tl nc nw cd cs wd m), 0) (2 ^ nw)).2).toInt.toNat) / Nat.gcd (((it (lX6_peaceOf_9 c tl nc nw cd cs wd m) ((fX6_asTold tl nc nw cd cs wd m), 0) (2 ^ nw)).2).toInt.toNat) (2 ^ (4 * nw))) else lN ((2 ^ (4 * nw)) / Nat.gcd (((it (lX6_peaceOf_9 c tl nc nw cd cs wd m) ((fX6_asTold tl nc nw cd cs wd m), 0) (2 ^ nw)).2).toInt.toNat) (2 ^ (4 * nw))))
noncomputable def fX6_peaceOf (c : Nat) (tl : Nat → Nat) (nc : Nat) (nw : Nat) (cd : Nat → Nat) (cs : Nat → Nat) (wd : Nat → Nat) (m : Mem) : Mem := (it (lX6_peaceOf_9 c tl nc nw cd cs wd m) ((fX6_asTold tl nc nw cd cs wd m), 0) (2 ^ nw)).1
theorem fr_fX6_peaceOf (c : Nat) (tl : Nat → Nat) (nc : Nat) (nw : Nat) (cd : Nat → Nat) (cs : Nat → Nat) (wd : Nat → Nat) (m : Mem) (f : Nat) (h2 : f ≠ 2) (h3 : f ≠ 3) (h4 : f ≠ 4) (h5 : f ≠ 5) (h6 : f ≠ 6) (h7 : f ≠ 7) (h8 : f ≠ 8) (h16 : f ≠ 16) (h17 : f ≠ 17) (h18 : f ≠ 18) (h19 : f ≠ 19) (h20 : f ≠ 20) (h21 : f ≠ 21) (h22 : f ≠ 22) (h23 : f ≠ 23) (h24 : f ≠ 24) (h25 : f ≠ 25) (h26 : f ≠ 26) (h27 : f ≠ 27) : fX6_peaceOf c tl nc nw cd cs wd m f = m f := (show (it (lX6_peaceOf_9 c tl nc nw cd cs wd m) ((fX6_asTold tl nc nw cd cs wd m), 0) (2 ^ nw)).1 f = (fX6_asTold tl nc nw cd cs wd m) f from fi_lX6_peaceOf_9 c tl nc nw cd cs wd m ((fX6_asTold tl nc nw cd cs wd m), 0) (2 ^ nw) f h17 h18 h19 h20 h21 h22 h23 h24 h25 h26 h27).trans ((fr_fX6_asTold tl nc nw cd cs wd m f h2 h3 h4 h5 h6 h7 h8 h16 h17 h18).trans (rfl))
theorem gv_X6_peaceOf_2 (m : Mem) (c : Nat) (what : Int32) (tl : Nat → Nat) (nc : Nat) (nw : Nat) (cd : Nat → Nat) (cs : Nat → Nat) (wd : Nat → Nat) (htl : ∀ t, t < 2 → m 0 t = nI (tl t)) (ltl : ∀ t, tl t ≤ 31) (hnc : m 11 0 = nI nc) (lnc : nc ≤ 8) (hnw : m 14 0 = nI nw) (lnw : nw ≤ 6) (hcd : ∀ j, j < nc → m 12 j = nI (cd j)) (lcd : ∀ j, j < nc → cd j < 20) (hcs : ∀ j, j < nc → m 13 j = nI (cs j)) (lcs : ∀ j, j < nc → cs j < 8) (hwd : ∀ j, j < nw → m 15 j = nI (wd j)) (lwd : ∀ j, j < nw → wd j < 20) (hc : c ≤ 16) : fX6_peaceOf c tl nc nw cd cs wd m 2 0 = (nI (nS tl m)) := show (it (lX6_peaceOf_9 c tl nc nw cd cs wd m) ((fX6_asTold tl nc nw cd cs wd m), 0) (2 ^ nw)).1 2 0 = _ from (show (it (lX6_peaceOf_9 c tl nc nw cd cs wd m) ((fX6_asTold tl nc nw cd cs wd m), 0) (2 ^ nw)).1 2 0 = (fX6_asTold tl nc nw cd cs wd m) 2 0 from congrFun (fi_lX6_peaceOf_9 c tl nc nw cd cs wd m ((fX6_asTold tl nc nw cd cs wd m), 0) (2 ^ nw) 2 (by decide) (by decide) (by decide) (by decide) (by decide) (by decide) (by decide) (by decide) (by decide) (by decide) (by decide)) 0).trans (gv_X6_asTold_2 m tl nc nw cd cs wd htl ltl hnc (by omega) hnw (by omega) hcd lcd hcs lcs hwd lwd)
theorem gv_X6_peaceOf_6 (m : Mem) (c : Nat) (what : Int32) (tl : Nat → Nat) (nc : Nat) (nw : Nat) (cd : Nat → Nat) (cs : Nat → Nat) (wd : Nat → Nat) (htl : ∀ t, t < 2 → m 0 t = nI (tl t)) (ltl : ∀ t, tl t ≤ 31) (hnc : m 11 0 = nI nc) (lnc : nc ≤ 8) (hnw : m 14 0 = nI nw) (lnw : nw ≤ 6) (hcd : ∀ j, j < nc → m 12 j = nI (cd j)) (lcd : ∀ j, j < nc → cd j < 20) (hcs : ∀ j, j < nc → m 13 j = nI (cs j)) (lcs : ∀ j, j < nc → cs j < 8) (hwd : ∀ j, j < nw → m 15 j = nI (wd j)) (lwd : ∀ j, j < nw → wd j < 20) (hc : c ≤ 16) : fX6_peaceOf c tl nc nw cd cs wd m 6 0 = (nI (nP tl m)) := show (it (lX6_peaceOf_9 c tl nc nw cd cs wd m) ((fX6_asTold tl nc nw cd cs wd m), 0) (2 ^ nw)).1 6 0 = _ from (show (it (lX6_peaceOf_9 c tl nc nw cd cs wd m) ((fX6_asTold tl nc nw cd cs wd m), 0) (2 ^ nw)).1 6 0 = (fX6_asTold tl nc nw cd cs wd m) 6 0 from congrFun (fi_lX6_peaceOf_9 c tl nc nw cd cs wd m ((fX6_asTold tl nc nw cd cs wd m), 0) (2 ^ nw) 6 (by decide) (by decide) (by decide) (by decide) (by decide) (by decide) (by decide) (by decide) (by decide) (by decide) (by decide)) 0).trans (gv_X6_asTold_6 m tl nc nw cd cs wd htl ltl hnc (by omega) hnw (by omega) hcd lcd hcs lcs hwd lwd)
theorem pc_wt (c nw i9 : Nat) (hc : c ≤ 16) : ∀ n, ∃ w, w ≤ 16 ^ n ∧ it (lX6_peaceOf_26 c i9) 1 n = lN w := by
  intro n
  refine it_invN (fun n (b : Int64) => ∃ w, w ≤ 16 ^ n ∧ b = lN w) n ⟨1, by decide, rfl⟩ ?_ n (Nat.le_refl n)
  intro i b _ h
  obtain ⟨w, hw, e⟩ := h
  subst e
  unfold lX6_peaceOf_26
  split
  · refine ⟨w * (16 - c), ?_, ?_⟩
    · rw [Nat.pow_succ]; exact Nat.mul_le_mul hw (by omega)
    · rw [nI_l (by omega), lN_mul]
  · refine ⟨w * c, ?_, ?_⟩
    · rw [Nat.pow_succ]; exact Nat.mul_le_mul hw hc
    · rw [nI_l (by omega), lN_mul]
theorem pc_sum (c : Nat) (tl : Nat → Nat) (nc nw : Nat) (cd cs wd : Nat → Nat) (m : Mem) (hc : c ≤ 16) (lnw : nw ≤ 6) : ∃ s, s < 2 ^ 62 ∧ (it (lX6_peaceOf_9 c tl nc nw cd cs wd m) (fX6_asTold tl nc nw cd cs wd m, 0) (2 ^ nw)).2 = lN s := by
  have hp := pow4 lnw
  have h16 : 16 ^ nw ≤ 16777216 := by rw [show (16 : Nat) = 2 ^ 4 by decide, ← Nat.pow_mul]; exact hp.2.1
  have h := it_invN (f := lX6_peaceOf_9 c tl nc nw cd cs wd m) (x := (fX6_asTold tl nc nw cd cs wd m, 0)) (fun n (b : Mem × Int64) => ∃ s, s ≤ n * 16777216 ∧ b.2 = lN s) (2 ^ nw) ⟨0, by decide, rfl⟩ ?_ (2 ^ nw) (Nat.le_refl _)
  · obtain ⟨s, hs, e⟩ := h
    refine ⟨s, ?_, e⟩
    have : 2 ^ nw * 16777216 ≤ 64 * 16777216 := Nat.mul_le_mul_right _ hp.2.2.2
    omega
  · intro i b _ h
    obtain ⟨s, hs, e⟩ := h
    obtain ⟨w, hw, ew⟩ := pc_wt c nw i hc nw
    unfold lX6_peaceOf_9
    dsimp only
    rw [ew, e]
    split
    · exact ⟨s + w, by omega, lN_add s w⟩
    · exact ⟨s, Nat.le_trans hs (Nat.mul_le_mul_right _ (Nat.le_succ i)), Int64.add_zero _⟩
set_option maxHeartbeats 4000000 in
set_option maxRecDepth 100000 in
theorem metX6_peaceOf (l : Launch) (X : Mx) (m : Mem) (c : Nat) (what : Int32) (tl : Nat → Nat) (nc : Nat) (nw : Nat) (cd : Nat → Nat) (cs : Nat → Nat) (wd : Nat → Nat) (htl : ∀ t, t < 2 → m 0 t = nI (tl t)) (ltl : ∀ t, tl t ≤ 31) (hnc : m 11 0 = nI nc) (lnc : nc ≤ 8) (hnw : m 14 0 = nI nw) (lnw : nw ≤ 6) (hcd : ∀ j, j < nc → m 12 j = nI (cd j)) (lcd : ∀ j, j < nc → cd j < 20) (hcs : ∀ j, j < nc → m 13 j = nI (cs j)) (lcs : ∀ j, j < nc → cs j < 8) (hwd : ∀ j, j < nw → m 15 j = nI (wd j)) (lwd : ∀ j, j < nw → wd j < 20) (hc : c ≤ 16) : Cn l yX6_peaceOf (ws_ yX6_peaceOf cX6_peaceOf 9 (some .long)) 9 0 0 [.ref (mx_ad X 40), .int (nI c), .int what] (PicM X) (KM X) (mx_A X) m (fun rv_ w_ => rv_ = some (.long (rX6_peaceOf c what tl nc nw cd cs wd m)) ∧ w_ = (fX6_peaceOf c tl nc nw cd cs wd m)) := by
  refine cn_l (own := RX6) rfl (Nat.le_of_ble_eq_true rfl) rfl (fun g hgl hA F hret => ?_)
  refine Wd.eql (lv' := [(0, .ref (mx_ad X 40)), (1, .int (nI c)), (2, .int what)]) rfl ?_
  have hpw := pow4 lnw
  refine ro_aload_n F dX6_peaceOf_0 0 rfl ?_
  refine mo_cV (rest := []) F hA (metX6_asTold (gx_l g) X m tl nc nw cd cs wd htl ltl hnc (by omega) hnw (by omega) hcd lcd hcs lcs hwd lwd) cwX6_201 hdX6_asTold rfl (Nat.le_of_ble_eq_true rfl) (Nat.le_of_ble_eq_true rfl) (Nat.le_refl _) (Nat.le_refl _) rfl (Nat.le_of_ble_eq_true rfl) dX6_peaceOf_1 ?_
  refine ro_lconst (v := 0) F dX6_peaceOf_4 (by decide) ?_
  refine ro_lstore_n (lv' := [(0, .ref (mx_ad X 40)), (1, .int (nI c)), (2, .int what), (3, .long 0)]) F dX6_peaceOf_5 (Nat.le_of_ble_eq_true rfl) [1, 2, 3, 0] rfl ?_
  refine ro_iconst (v := (nI 0)) F dX6_peaceOf_6 (by decide) ?_
  refine ro_istore (lv' := [(0, .ref (mx_ad X 40)), (1, .int (nI c)), (2, .int what), (3, .long 0), (5, .int (nI 0))]) F dX6_peaceOf_7 (Nat.le_of_ble_eq_true rfl) [1, 2, 3, 4, 0] rfl ?_
  refine it_loop (2 ^ nw) (lX6_peaceOf_9 c tl nc nw cd cs wd m) ((fX6_asTold tl nc nw cd cs wd m), 0) (fun (_ : Nat) (b9 : Mem × Int64) => ∀ f : Nat, f ≠ 17 → f ≠ 18 → f ≠ 19 → f ≠ 20 → f ≠ 21 → f ≠ 22 → f ≠ 23 → f ≠ 24 → f ≠ 25 → f ≠ 26 → f ≠ 27 → b9.1 f = (fX6_asTold tl nc nw cd cs wd m) f) (fun (i9 : Nat) (b9 : Mem × Int64) => Wd (PicM X) g 9 b9.1 0 0 9 [(0, .ref (mx_ad X 40)), (1, .int (nI c)), (2, .int what), (3, .long b9.2), (5, .int (nI i9))] []) (fun f _ _ _ _ _ _ _ _ _ _ _ => rfl) (fun i_ b_ _ hb f h17 h18 h19 h20 h21 h22 h23 h24 h25 h26 h27 => (fr_lX6_peaceOf_9 c tl nc nw cd cs wd m i_ b_ f h17 h18 h19 h20 h21 h22 h23 h24 h25 h26 h27).trans (hb f h17 h18 h19 h20 h21 h22 h23 h24 h25 h26 h27)) (fun i9 b9 hi9 hf9 ih9 => ?_) (fun b9 hf9 he9 => ?_)
  · dsimp only [lX6_peaceOf_9] at ih9
    refine ro_iload F dX6_peaceOf_9 4 rfl ?_
    refine ro_iconst (v := (nI 1)) F dX6_peaceOf_11 (by decide) ?_
    refine ro_aload_n F dX6_peaceOf_12 0 rfl ?_
    refine mo_gi F 14 (Nat.le_of_ble_eq_true rfl) rfl lkX6_159 rfl dX6_peaceOf_13 ((congrFun (hf9 14 (by decide) (by decide) (by decide) (by decide) (by decide) (by decide) (by decide) (by decide) (by decide) (by decide) (by decide)) 0).trans ((congrFun (fr_fX6_asTold tl nc nw cd cs wd m 14 (by decide) (by decide) (by decide) (by decide) (by decide) (by decide) (by decide) (by decide) (by decide) (by decide)) 0).trans (hnw))) ?_
    refine ro_ishl F dX6_peaceOf_16 ?_
    refine ro_eqi (y := nI (2 ^ nw)) (shl1_pow (Nat.le_trans lnw (by decide))) ?_
    refine ro_icmp_geN (tgt := 100) F dX6_peaceOf_17 (by decide) (by omega) (by omega) (fun c17 => absurd c17 (by omega)) (fun c17 => ?_)
    refine ro_lconst (v := 1) F dX6_peaceOf_20 (by decide) ?_
    refine ro_lstore (lv' := [(0, .ref (mx_ad X 40)), (1, .int (nI c)), (2, .int what), (3, .long b9.2), (5, .int (nI i9)), (6, .long 1)]) F dX6_peaceOf_21 (Nat.le_of_ble_eq_true rfl) [1, 2, 3, 4, 5, 0] rfl ?_
    refine ro_iconst (v := (nI 0)) F dX6_peaceOf_23 (by decide) ?_
    refine ro_istore (lv' := [(0, .ref (mx_ad X 40)), (1, .int (nI c)), (2, .int what), (3, .long b9.2), (5, .int (nI i9)), (6, .long 1), (8, .int (nI 0))]) F dX6_peaceOf_24 (Nat.le_of_ble_eq_true rfl) [1, 2, 3, 4, 5, 6, 0] rfl ?_
    refine it_loop nw (lX6_peaceOf_26 c i9) 1 (fun _ _ => True) (fun (i26 : Nat) (b26 : Int64) => Wd (PicM X) g 9 b9.1 0 0 26 [(0, .ref (mx_ad X 40)), (1, .int (nI c)), (2, .int what), (3, .long b9.2), (5, .int (nI i9)), (6, .long b26), (8, .int (nI i26))] []) trivial (fun _ _ _ _ => trivial) (fun i26 b26 hi26 hf26 ih26 => ?_) (fun b26 hf26 he26 => ?_)
    · refine ro_iload F dX6_peaceOf_26 6 rfl ?_
      refine ro_aload_n F dX6_peaceOf_28 0 rfl ?_
      refine mo_gi F 14 (Nat.le_of_ble_eq_true rfl) rfl lkX6_159 rfl dX6_peaceOf_29 ((congrFun (hf9 14 (by decide) (by decide) (by decide) (by decide) (by decide) (by decide) (by decide) (by decide) (by decide) (by decide) (by decide)) 0).trans ((congrFun (fr_fX6_asTold tl nc nw cd cs wd m 14 (by decide) (by decide) (by decide) (by decide) (by decide) (by decide) (by decide) (by decide) (by decide) (by decide)) 0).trans (hnw))) ?_
      refine ro_icmp_geN (tgt := 66) F dX6_peaceOf_32 (by decide) (by omega) (by omega) (fun c32 => absurd c32 (by omega)) (fun c32 => ?_)
      refine ro_lload F dX6_peaceOf_35 5 rfl ?_
      refine ro_iload F dX6_peaceOf_37 4 rfl ?_
      refine ro_iload F dX6_peaceOf_39 6 rfl ?_
      refine mo_cS (rest := [.long b26]) F hA (metX6_isIn (gx_l g) X b9.1 (nI i9) (nI i26) ) cwX6_174 hdX6_isIn rfl (Nat.le_of_ble_eq_true rfl) (Nat.le_of_ble_eq_true rfl) (Nat.le_refl _) (Nat.le_refl _) rfl (Nat.le_of_ble_eq_true rfl) dX6_peaceOf_41 ?_
      have J57_44 : Wd (PicM X) g 9 b9.1 0 0 57 [(0, .ref (mx_ad X 40)), (1, .int (nI c)), (2, .int what), (3, .long b9.2), (5, .int (nI i9)), (8, .int (nI i26))] [.long (if (((nI i9) >>> ((nI i26) &&& 31)) &&& (nI 1)) = (nI 1) then ((nI (16 - c)).toInt64) else ((nI c).toInt64)), .long b26] := by
        refine ro_lmul F dX6_peaceOf_57 ?_
        refine ro_lstore (lv' := [(0, .ref (mx_ad X 40)), (1, .int (nI c)), (2, .int what), (3, .long b9.2), (5, .int (nI i9)), (6, .long (b26 * (if (((nI i9) >>> ((nI i26) &&& 31)) &&& (nI 1)) = (nI 1) then ((nI (16 - c)).toInt64) else ((nI c).toInt64)))), (8, .int (nI i26))]) F dX6_peaceOf_58 (Nat.le_of_ble_eq_true rfl) [1, 2, 3, 4, 5, 0, 6] rfl ?_
        refine ro_iincN (z := 1) (lv' := [(0, .ref (mx_ad X 40)), (1, .int (nI c)), (2, .int what), (3, .long b9.2), (5, .int (nI i9)), (6, .long (b26 * (if (((nI i9) >>> ((nI i26) &&& 31)) &&& (nI 1)) = (nI 1) then ((nI (16 - c)).toInt64) else ((nI c).toInt64)))), (8, .int (nI (i26 + 1)))]) F dX6_peaceOf_60 6 rfl (Nat.le_of_ble_eq_true rfl) [1, 2, 3, 4, 5, 6, 0] rfl ?_
        refine ro_goto (tgt := 26) F dX6_peaceOf_63 (by decide) ?_
        exact ih26
      refine ro_if_eqB (tgt := 55) F dX6_peaceOf_44 (by decide) (fun c44 => ?_) (fun c44 => ?_)
      · refine ro_iload_n F dX6_peaceOf_55 1 rfl ?_
        refine ro_i2l F dX6_peaceOf_56 ?_
        exact Wd.sub (lv' := [(0, .ref (mx_ad X 40)), (1, .int (nI c)), (2, .int what), (3, .long b9.2), (5, .int (nI i9)), (8, .int (nI i26))]) [0, 1, 2, 3, 4, 6] rfl <| Wd.to J57_44 rfl rfl (congrArg (fun z => ([Value.long z, .long b26] : List Value)) (by simp only [if_neg c44]))
      · refine ro_bipush (v := (nI 16)) F dX6_peaceOf_47 (by decide) ?_
        refine ro_iload_n F dX6_peaceOf_49 1 rfl ?_
        refine ro_isubN F (by omega) dX6_peaceOf_50 ?_
        refine ro_i2l F dX6_peaceOf_51 ?_
        refine ro_goto (tgt := 57) F dX6_peaceOf_52 (by decide) ?_
        exact Wd.sub (lv' := [(0, .ref (mx_ad X 40)), (1, .int (nI c)), (2, .int what), (3, .long b9.2), (5, .int (nI i9)), (8, .int (nI i26))]) [0, 1, 2, 3, 4, 6] rfl <| Wd.to J57_44 rfl rfl (congrArg (fun z => ([Value.long z, .long b26] : List Value)) (by simp only [if_pos c44]))
    subst he26
    refine ro_iload F dX6_peaceOf_26 6 rfl ?_
    refine ro_aload_n F dX6_peaceOf_28 0 rfl ?_
    refine mo_gi F 14 (Nat.le_of_ble_eq_true rfl) rfl lkX6_159 rfl dX6_peaceOf_29 ((congrFun (hf9 14 (by decide) (by decide) (by decide) (by decide) (by decide) (by decide) (by decide) (by decide) (by decide) (by decide) (by decide)) 0).trans ((congrFun (fr_fX6_asTold tl nc nw cd cs wd m 14 (by decide) (by decide) (by decide) (by decide) (by decide) (by decide) (by decide) (by decide) (by decide) (by decide)) 0).trans (hnw))) ?_
    refine ro_icmp_geN (tgt := 66) F dX6_peaceOf_32 (by decide) (by omega) (by omega) (fun c32 => ?_) (fun c32 => absurd c32 (by omega))
    refine ro_aload_n F dX6_peaceOf_66 0 rfl ?_
    refine ro_iconst (v := (nI 0)) F dX6_peaceOf_67 (by decide) ?_
    refine ro_iload F dX6_peaceOf_68 4 rfl ?_
    refine mo_cV (rest := []) F hA (metX6_lays (gx_l g) X b9.1 (nI 0) (nI i9) nc nw cd cs wd ((congrFun (hf9 11 (by decide) (by decide) (by decide) (by decide) (by decide) (by decide) (by decide) (by decide) (by decide) (by decide) (by decide)) 0).trans ((congrFun (fr_fX6_asTold tl nc nw cd cs wd m 11 (by decide) (by decide) (by decide) (by decide) (by decide) (by decide) (by decide) (by decide) (by decide) (by decide)) 0).trans (hnc))) (by omega) ((congrFun (hf9 14 (by decide) (by decide) (by decide) (by decide) (by decide) (by decide) (by decide) (by decide) (by decide) (by decide) (by decide)) 0).trans ((congrFun (fr_fX6_asTold tl nc nw cd cs wd m 14 (by decide) (by decide) (by decide) (by decide) (by decide) (by decide) (by decide) (by decide) (by decide) (by decide)) 0).trans (hnw))) (by omega) (by rw [show b9.1 12 = _ from (hf9 12 (by decide) (by decide) (by decide) (by decide) (by decide) (by decide) (by decide) (by decide) (by decide) (by decide) (by decide)).trans (fr_fX6_asTold tl nc nw cd cs wd m 12 (by decide) (by decide) (by decide) (by decide) (by decide) (by decide) (by decide) (by decide) (by decide) (by decide))]; exact hcd) lcd (by rw [show b9.1 13 = _ from (hf9 13 (by decide) (by decide) (by decide) (by decide) (by decide) (by decide) (by decide) (by decide) (by decide) (by decide) (by decide)).trans (fr_fX6_asTold tl nc nw cd cs wd m 13 (by decide) (by decide) (by decide) (by decide) (by decide) (by decide) (by decide) (by decide) (by decide) (by decide))]; exact hcs) lcs (by rw [show b9.1 15 = _ from (hf9 15 (by decide) (by decide) (by decide) (by decide) (by decide) (by decide) (by decide) (by decide) (by decide) (by decide) (by decide)).trans (fr_fX6_asTold tl nc nw cd cs wd m 15 (by decide) (by decide) (by decide) (by decide) (by decide) (by decide) (by decide) (by decide) (by decide) (by decide))]; exact hwd) lwd) cwX6_181 hdX6_lays rfl (Nat.le_of_ble_eq_true rfl) (Nat.le_of_ble_eq_true rfl) (Nat.le_refl _) (Nat.le_refl _) rfl (Nat.le_of_ble_eq_true rfl) dX6_peaceOf_70 ?_
    refine ro_aload_n F dX6_peaceOf_73 0 rfl ?_
    have hz := lP tl m
    have hz := lS tl m
    refine mo_cV (rest := []) F hA (metX6_runs (gx_l g) X (fX6_lays (nI 0) (nI i9) nc nw cd cs wd b9.1) (nP tl m) (nS tl m) ((congrFun (fr_fX6_lays (nI 0) (nI i9) nc nw cd cs wd b9.1 6 (by decide) (by decide)) 0).trans ((congrFun (hf9 6 (by decide) (by decide) (by decide) (by decide) (by decide) (by decide) (by decide) (by decide) (by decide) (by decide) (by decide)) 0).trans (gv_X6_asTold_6 m tl nc nw cd cs wd htl ltl hnc (by omega) hnw (by omega) hcd lcd hcs lcs hwd lwd))) (by omega) ((congrFun (fr_fX6_lays (nI 0) (nI i9) nc nw cd cs wd b9.1 2 (by decide) (by decide)) 0).trans ((congrFun (hf9 2 (by decide) (by decide) (by decide) (by decide) (by decide) (by decide) (by decide) (by decide) (by decide) (by decide) (by decide)) 0).trans (gv_X6_asTold_2 m tl nc nw cd cs wd htl ltl hnc (by omega) hnw (by omega) hcd lcd hcs lcs hwd lwd))) (by omega)) cwX6_204 hdX6_runs rfl (Nat.le_of_ble_eq_true rfl) (Nat.le_of_ble_eq_true rfl) (Nat.le_refl _) (Nat.le_refl _) rfl (Nat.le_of_ble_eq_true rfl) dX6_peaceOf_74 ?_
    refine ro_lload_n F dX6_peaceOf_77 3 rfl ?_
    refine ro_aload_n F dX6_peaceOf_78 0 rfl ?_
    refine mo_gi F 25 (Nat.le_of_ble_eq_true rfl) rfl lkX6_191 rfl dX6_peaceOf_79 rfl ?_
    refine ro_iconst (v := (-1)) F dX6_peaceOf_82 (by decide) ?_
    have J92_83 : Wd (PicM X) g 9 (fX6_runs (nP tl m) (nS tl m) (fX6_lays (nI 0) (nI i9) nc nw cd cs wd b9.1)) 0 0 92 [(0, .ref (mx_ad X 40)), (1, .int (nI c)), (2, .int what), (5, .int (nI i9))] [.long (if ((fX6_runs (nP tl m) (nS tl m) (fX6_lays (nI 0) (nI i9) nc nw cd cs wd b9.1)) 25 0) = (-1) then (it (lX6_peaceOf_26 c i9) 1 nw) else 0), .long b9.2] := by
      refine ro_ladd F dX6_peaceOf_92 ?_
      refine ro_lstore_n (lv' := [(0, .ref (mx_ad X 40)), (1, .int (nI c)), (2, .int what), (3, .long (b9.2 + (if ((fX6_runs (nP tl m) (nS tl m) (fX6_lays (nI 0) (nI i9) nc nw cd cs wd b9.1)) 25 0) = (-1) then (it (lX6_peaceOf_26 c i9) 1 nw) else 0))), (5, .int (nI i9))]) F dX6_peaceOf_93 (Nat.le_of_ble_eq_true rfl) [1, 2, 3, 0, 4] rfl ?_
      refine ro_iincN (z := 1) (lv' := [(0, .ref (mx_ad X 40)), (1, .int (nI c)), (2, .int what), (3, .long (b9.2 + (if ((fX6_runs (nP tl m) (nS tl m) (fX6_lays (nI 0) (nI i9) nc nw cd cs wd b9.1)) 25 0) = (-1) then (it (lX6_peaceOf_26 c i9) 1 nw) else 0))), (5, .int (nI (i9 + 1)))]) F dX6_peaceOf_94 4 rfl (Nat.le_of_ble_eq_true rfl) [1, 2, 3, 4, 0] rfl ?_
      refine ro_goto (tgt := 9) F dX6_peaceOf_97 (by decide) ?_
      exact ih9
    refine ro_icmp_ne (tgt := 91) F dX6_peaceOf_83 (by decide) (fun c83 => ?_) (fun c83 => ?_)
    · refine ro_lconst (v := 0) F dX6_peaceOf_91 (by decide) ?_
      exact Wd.sub (lv' := [(0, .ref (mx_ad X 40)), (1, .int (nI c)), (2, .int what), (5, .int (nI i9))]) [0, 1, 2, 4] rfl <| Wd.to J92_83 rfl rfl (congrArg (fun z => ([Value.long z, .long b9.2] : List Value)) (by simp only [if_neg c83]))
    · refine ro_lload F dX6_peaceOf_86 5 rfl ?_
      refine ro_goto (tgt := 92) F dX6_peaceOf_88 (by decide) ?_
      exact Wd.sub (lv' := [(0, .ref (mx_ad X 40)), (1, .int (nI c)), (2, .int what), (5, .int (nI i9))]) [0, 1, 2, 4] rfl <| Wd.to J92_83 rfl rfl (congrArg (fun z => ([Value.long z, .long b9.2] : List Value)) (by simp only [if_pos c83]))
  subst he9
  refine ro_iload F dX6_peaceOf_9 4 rfl ?_
  refine ro_iconst (v := (nI 1)) F dX6_peaceOf_11 (by decide) ?_
  refine ro_aload_n F dX6_peaceOf_12 0 rfl ?_
  refine mo_gi F 14 (Nat.le_of_ble_eq_true rfl) rfl lkX6_159 rfl dX6_peaceOf_13 ((show (it (lX6_peaceOf_9 c tl nc nw cd cs wd m) ((fX6_asTold tl nc nw cd cs wd m), 0) (2 ^ nw)).1 14 0 = (fX6_asTold tl nc nw cd cs wd m) 14 0 from congrFun (fi_lX6_peaceOf_9 c tl nc nw cd cs wd m ((fX6_asTold tl nc nw cd cs wd m), 0) (2 ^ nw) 14 (by decide) (by decide) (by decide) (by decide) (by decide) (by decide) (by decide) (by decide) (by decide) (by decide) (by decide)) 0).trans ((congrFun (fr_fX6_asTold tl nc nw cd cs wd m 14 (by decide) (by decide) (by decide) (by decide) (by decide) (by decide) (by decide) (by decide) (by decide) (by decide)) 0).trans (hnw))) ?_
  refine ro_ishl F dX6_peaceOf_16 ?_
  refine ro_eqi (y := nI (2 ^ nw)) (shl1_pow (Nat.le_trans lnw (by decide))) ?_
  refine ro_icmp_geN (tgt := 100) F dX6_peaceOf_17 (by decide) (by omega) (by omega) (fun c17 => ?_) (fun c17 => absurd c17 (by omega))
  refine ro_lload_n F dX6_peaceOf_100 3 rfl ?_
  obtain ⟨hs1, hs2⟩ := lN_back (pc_sum c tl nc nw cd cs wd m hc lnw)
  refine ro_eql (y := lN (((it (lX6_peaceOf_9 c tl nc nw cd cs wd m) ((fX6_asTold tl nc nw cd cs wd m), 0) (2 ^ nw)).2).toInt.toNat)) hs1 ?_
  refine ro_lconst (v := 1) F dX6_peaceOf_101 (by decide) ?_
  refine ro_iconst (v := (nI 4)) F dX6_peaceOf_102 (by decide) ?_
  refine ro_aload_n F dX6_peaceOf_103 0 rfl ?_
  refine mo_gi F 14 (Nat.le_of_ble_eq_true rfl) rfl lkX6_159 rfl dX6_peaceOf_104 ((show (it (lX6_peaceOf_9 c tl nc nw cd cs wd m) ((fX6_asTold tl nc nw cd cs wd m), 0) (2 ^ nw)).1 14 0 = (fX6_asTold tl nc nw cd cs wd m) 14 0 from congrFun (fi_lX6_peaceOf_9 c tl nc nw cd cs wd m ((fX6_asTold tl nc nw cd cs wd m), 0) (2 ^ nw) 14 (by decide) (by decide) (by decide) (by decide) (by decide) (by decide) (by decide) (by decide) (by decide) (by decide) (by decide)) 0).trans ((congrFun (fr_fX6_asTold tl nc nw cd cs wd m 14 (by decide) (by decide) (by decide) (by decide) (by decide) (by decide) (by decide) (by decide) (by decide) (by decide)) 0).trans (hnw))) ?_
  refine ro_imulN F dX6_peaceOf_107 ?_
  refine ro_lshl F dX6_peaceOf_108 ?_
  refine ro_eql (y := lN (2 ^ (4 * nw))) (shl4 lnw) ?_
  refine ro_iload_n F dX6_peaceOf_109 2 rfl ?_
  refine mo_cS (rest := []) F hA (metX6_lowest (gx_l g) X ((it (lX6_peaceOf_9 c tl nc nw cd cs wd m) ((fX6_asTold tl nc nw cd cs wd m), 0) (2 ^ nw)).1) (((it (lX6_peaceOf_9 c tl nc nw cd cs wd m) ((fX6_asTold tl nc nw cd cs wd m), 0) (2 ^ nw)).2).toInt.toNat) (2 ^ (4 * nw)) what (by omega) (by omega) (by omega)) cwX6_267 hdX6_lowest rfl (Nat.le_of_ble_eq_true rfl) (Nat.le_of_ble_eq_true rfl) (Nat.le_refl _) (Nat.le_refl _) rfl (Nat.le_of_ble_eq_true rfl) dX6_peaceOf_110 ?_
  exact hret _ _ _ _ _ _ (Nat.le_refl _) (Nat.le_refl _) dX6_peaceOf_113 ⟨congrArg (fun z => some (Value.long z)) (rfl), rfl⟩
noncomputable def rX6_peace (c : Nat) (what : Int32) (tl : Nat → Nat) (nc : Nat) (nw : Nat) (cd : Nat → Nat) (cs : Nat → Nat) (wd : Nat → Nat) (m : Mem) : Int64 := (if ¬ (what < (nI 0)) ∧ (¬ ((nI 1) < what)) then (rX6_peaceOf c what tl nc nw cd cs wd m) else ((-9223372036854775808) - ((-2 : Int32).toInt64)))
noncomputable def fX6_peace (c : Nat) (what : Int32) (tl : Nat → Nat) (nc : Nat) (nw : Nat) (cd : Nat → Nat) (cs : Nat → Nat) (wd : Nat → Nat) (m : Mem) : Mem := (if ¬ (what < (nI 0)) ∧ (¬ ((nI 1) < what)) then (fX6_peaceOf c tl nc nw cd cs wd m) else m)
theorem fr_fX6_peace (c : Nat) (what : Int32) (tl : Nat → Nat) (nc : Nat) (nw : Nat) (cd : Nat → Nat) (cs : Nat → Nat) (wd : Nat → Nat) (m : Mem) (f : Nat) (h2 : f ≠ 2) (h3 : f ≠ 3) (h4 : f ≠ 4) (h5 : f ≠ 5) (h6 : f ≠ 6) (h7 : f ≠ 7) (h8 : f ≠ 8) (h16 : f ≠ 16) (h17 : f ≠ 17) (h18 : f ≠ 18) (h19 : f ≠ 19) (h20 : f ≠ 20) (h21 : f ≠ 21) (h22 : f ≠ 22) (h23 : f ≠ 23) (h24 : f ≠ 24) (h25 : f ≠ 25) (h26 : f ≠ 26) (h27 : f ≠ 27) : fX6_peace c what tl nc nw cd cs wd m f = m f := ite_fr ((fr_fX6_peaceOf c tl nc nw cd cs wd m f h2 h3 h4 h5 h6 h7 h8 h16 h17 h18 h19 h20 h21 h22 h23 h24 h25 h26 h27).trans (rfl)) (rfl)
set_option maxHeartbeats 4000000 in
set_option maxRecDepth 100000 in
theorem metX6_peace (l : Launch) (X : Mx) (m : Mem) (c : Nat) (what : Int32) (tl : Nat → Nat) (nc : Nat) (nw : Nat) (cd : Nat → Nat) (cs : Nat → Nat) (wd : Nat → Nat) (htl : ∀ t, t < 2 → m 0 t = nI (tl t)) (ltl : ∀ t, tl t ≤ 31) (hnc : m 11 0 = nI nc) (lnc : nc ≤ 8) (hnw : m 14 0 = nI nw) (lnw : nw ≤ 6) (hcd : ∀ j, j < nc → m 12 j = nI (cd j)) (lcd : ∀ j, j < nc → cd j < 20) (hcs : ∀ j, j < nc → m 13 j = nI (cs j)) (lcs : ∀ j, j < nc → cs j < 8) (hwd : ∀ j, j < nw → m 15 j = nI (wd j)) (lwd : ∀ j, j < nw → wd j < 20) (hc : c ≤ 16) : Cn l yX6_peace (ws_ yX6_peace cX6_peace 3 (some .long)) 10 0 0 [.ref (mx_ad X 40), .int (nI c), .int what] (PicM X) (KM X) (mx_A X) m (fun rv_ w_ => rv_ = some (.long (rX6_peace c what tl nc nw cd cs wd m)) ∧ w_ = (fX6_peace c what tl nc nw cd cs wd m)) := by
  refine cn_l (own := RX6) rfl (Nat.le_of_ble_eq_true rfl) rfl (fun g hgl hA F hret => ?_)
  refine Wd.eql (lv' := [(0, .ref (mx_ad X 40)), (1, .int (nI c)), (2, .int what)]) rfl ?_
  refine ro_iload_n F dX6_peace_0 1 rfl ?_
  refine ro_iconst (v := (nI 0)) F dX6_peace_1 (by decide) ?_
  refine ro_bipush (v := (nI 16)) F dX6_peace_2 (by decide) ?_
  refine mo_cS (rest := []) F hA (metX6_in (gx_l g) X m (nI c) (nI 0) (nI 16) ) cwX6_104 hdX6_in rfl (Nat.le_of_ble_eq_true rfl) (Nat.le_of_ble_eq_true rfl) (Nat.le_refl _) (Nat.le_refl _) rfl (Nat.le_of_ble_eq_true rfl) dX6_peace_4 ?_
  refine ro_if_eqB (tgt := 28) F dX6_peace_7 (by decide) (fun c7 => absurd (in_ok (by omega) (by omega) (by decide)) c7) (fun c7 => ?_)
  refine ro_iload_n F dX6_peace_10 2 rfl ?_
  refine ro_iconst (v := (nI 0)) F dX6_peace_11 (by decide) ?_
  refine ro_iconst (v := (nI 1)) F dX6_peace_12 (by decide) ?_
  refine mo_cS (rest := []) F hA (metX6_in (gx_l g) X m what (nI 0) (nI 1) ) cwX6_104 hdX6_in rfl (Nat.le_of_ble_eq_true rfl) (Nat.le_of_ble_eq_true rfl) (Nat.le_refl _) (Nat.le_refl _) rfl (Nat.le_of_ble_eq_true rfl) dX6_peace_13 ?_
  have J33_16 : Wd (PicM X) g 3 (if ¬ (what < (nI 0)) ∧ (¬ ((nI 1) < what)) then (fX6_peaceOf c tl nc nw cd cs wd m) else m) 0 0 33 [] [.long (if ¬ (what < (nI 0)) ∧ (¬ ((nI 1) < what)) then (rX6_peaceOf c what tl nc nw cd cs wd m) else ((-9223372036854775808) - ((-2 : Int32).toInt64)))] := by
    exact hret _ _ _ _ _ _ (Nat.le_refl _) (Nat.le_refl _) dX6_peace_33 ⟨congrArg (fun z => some (Value.long z)) (rfl), rfl⟩
  refine ro_if_eqB (tgt := 28) F dX6_peace_16 (by decide) (fun c16 => ?_) (fun c16 => ?_)
  · refine ro_bipush (v := (-2)) F dX6_peace_28 (by decide) ?_
    refine mo_cS (rest := []) F hA (metX6_no (gx_l g) X m (-2) ) cwX6_275 hdX6_no rfl (Nat.le_of_ble_eq_true rfl) (Nat.le_of_ble_eq_true rfl) (Nat.le_refl _) (Nat.le_refl _) rfl (Nat.le_of_ble_eq_true rfl) dX6_peace_30 ?_
    exact Wd.sub (lv' := []) [] rfl <| Wd.to J33_16 (by simp only [if_neg c16]) rfl (congrArg (fun z => ([Value.long z] : List Value)) (by simp only [if_neg c16]))
  · refine ro_aload_n F dX6_peace_19 0 rfl ?_
    refine ro_iload_n F dX6_peace_20 1 rfl ?_
    refine ro_iload_n F dX6_peace_21 2 rfl ?_
    refine mo_cV (rest := []) F hA (metX6_peaceOf (gx_l g) X m c what tl nc nw cd cs wd htl ltl hnc (by omega) hnw (by omega) hcd lcd hcs lcs hwd lwd (by omega)) cwX6_271 hdX6_peaceOf rfl (Nat.le_of_ble_eq_true rfl) (Nat.le_of_ble_eq_true rfl) (Nat.le_refl _) (Nat.le_refl _) rfl (Nat.le_of_ble_eq_true rfl) dX6_peace_22 ?_
    refine ro_goto (tgt := 33) F dX6_peace_25 (by decide) ?_
    exact Wd.sub (lv' := []) [] rfl <| Wd.to J33_16 (by simp only [if_pos c16]) rfl (congrArg (fun z => ([Value.long z] : List Value)) (by simp only [if_pos c16]))
noncomputable def rX6_peace_no : Int64 := ((-9223372036854775808) - ((-2 : Int32).toInt64))
set_option maxHeartbeats 4000000 in
set_option maxRecDepth 100000 in
theorem metX6_peace_no (l : Launch) (X : Mx) (m : Mem) (c : Int32) (what : Int32)  (hb : ¬ (¬ (c < nI 0) ∧ ¬ (nI 16 < c))) : Cn l yX6_peace (ws_ yX6_peace cX6_peace 3 (some .long)) 10 0 0 [.ref (mx_ad X 40), .int c, .int what] (PicM X) (KM X) (mx_A X) m (fun rv_ w_ => rv_ = some (.long (rX6_peace_no )) ∧ w_ = m) := by
  refine cn_l (own := RX6) rfl (Nat.le_of_ble_eq_true rfl) rfl (fun g hgl hA F hret => ?_)
  refine Wd.eql (lv' := [(0, .ref (mx_ad X 40)), (1, .int c), (2, .int what)]) rfl ?_
  refine ro_iload_n F dX6_peace_0 1 rfl ?_
  refine ro_iconst (v := (nI 0)) F dX6_peace_1 (by decide) ?_
  refine ro_bipush (v := (nI 16)) F dX6_peace_2 (by decide) ?_
  refine mo_cS (rest := []) F hA (metX6_in (gx_l g) X m c (nI 0) (nI 16) ) cwX6_104 hdX6_in rfl (Nat.le_of_ble_eq_true rfl) (Nat.le_of_ble_eq_true rfl) (Nat.le_refl _) (Nat.le_refl _) rfl (Nat.le_of_ble_eq_true rfl) dX6_peace_4 ?_
  refine ro_if_eqB (tgt := 28) F dX6_peace_7 (by decide) (fun c7 => ?_) (fun c7 => absurd c7 hb)
  refine ro_bipush (v := (-2)) F dX6_peace_28 (by decide) ?_
  refine mo_cS (rest := []) F hA (metX6_no (gx_l g) X m (-2) ) cwX6_275 hdX6_no rfl (Nat.le_of_ble_eq_true rfl) (Nat.le_of_ble_eq_true rfl) (Nat.le_refl _) (Nat.le_refl _) rfl (Nat.le_of_ble_eq_true rfl) dX6_peace_30 ?_
  exact hret _ _ _ _ _ _ (Nat.le_refl _) (Nat.le_refl _) dX6_peace_33 ⟨congrArg (fun z => some (Value.long z)) (rfl), rfl⟩
