set_option maxHeartbeats 4000000 in
set_option maxRecDepth 100000 in
theorem metX0_in (l : Launch) (x : Hx) (ad : Nat → Nat) (ds : Nat → Option Lay) (m : Mem) (v : Int64) (least : Int64) (most : Int64)  : Cn l yX0_in (ws_ yX0_in cX0_in 6 (some .boolean)) 1 0 0 [.long v, .long least, .long most] (PicH x) (KC x) (hx_A x) (ad, ds, m) (fun rv_ w_ => rv_ = some (.int (b2 (¬ (v < least) ∧ (¬ (most < v))))) ∧ w_ = (ad, ds, m)) := by
  refine cn_i (own := RX0) rfl (Nat.le_of_ble_eq_true rfl) rfl (fun g hgl hA F hret => ?_)
  refine Wd.eql (lv' := [(0, .long v), (2, .long least), (4, .long most)]) rfl ?_
  refine ro_lload_n F dX0_in_0 0 rfl ?_
  refine ro_lload_n F dX0_in_1 1 rfl ?_
  refine ro_lcmp F dX0_in_2 ?_
  have J18_3 : Wd (PicH x) g 6 (ad, ds, m) 0 0 18 [] [.int (b2 (¬ (v < least) ∧ (¬ (most < v))))] := by
    exact hret _ _ _ _ _ _ (Nat.le_refl _) (Nat.le_refl _) dX0_in_18 b2_nar ⟨rfl, rfl⟩
  refine ro_lif_lt (tgt := 17) F dX0_in_3 (by decide) (fun c3 => ?_) (fun c3 => ?_)
  · refine ro_iconst (v := (nI 0)) F dX0_in_17 (by decide) ?_
    exact Wd.sub (lv' := []) [] rfl <| Wd.to J18_3 rfl rfl (congrArg (fun z => ([Value.int z] : List Value)) ((b2_f (by simp [c3])).symm))
  · refine ro_lload_n F dX0_in_6 0 rfl ?_
    refine ro_lload F dX0_in_7 2 rfl ?_
    refine ro_lcmp F dX0_in_9 ?_
    refine ro_lif_gt (tgt := 17) F dX0_in_10 (by decide) (fun c10 => ?_) (fun c10 => ?_)
    · refine ro_iconst (v := (nI 0)) F dX0_in_17 (by decide) ?_
      exact Wd.sub (lv' := []) [] rfl <| Wd.to J18_3 rfl rfl (congrArg (fun z => ([Value.int z] : List Value)) ((b2_f (by simp [c3, c10])).symm))
    · refine ro_iconst (v := (nI 1)) F dX0_in_13 (by decide) ?_
      refine ro_goto (tgt := 18) F dX0_in_14 (by decide) ?_
      exact Wd.sub (lv' := []) [] rfl <| Wd.to J18_3 rfl rfl (congrArg (fun z => ([Value.int z] : List Value)) ((b2_t (by simp [c3, c10])).symm))
set_option maxHeartbeats 4000000 in
set_option maxRecDepth 100000 in
theorem metX0_isTwo (l : Launch) (x : Hx) (ad : Nat → Nat) (ds : Nat → Option Lay) (m : Mem) (v : Int32)  : Cn l yX0_isTwo (ws_ yX0_isTwo cX0_isTwo 1 (some .boolean)) 2 0 0 [.int v] (PicH x) (KC x) (hx_A x) (ad, ds, m) (fun rv_ w_ => rv_ = some (.int (b2 (¬ ((v.toInt64) < 0) ∧ (¬ (1 < (v.toInt64)))))) ∧ w_ = (ad, ds, m)) := by
  refine cn_i (own := RX0) rfl (Nat.le_of_ble_eq_true rfl) rfl (fun g hgl hA F hret => ?_)
  refine Wd.eql (lv' := [(0, .int v)]) rfl ?_
  refine ro_iload_n F dX0_isTwo_0 0 rfl ?_
  refine ro_i2l F dX0_isTwo_1 ?_
  refine ro_lconst (v := 0) F dX0_isTwo_2 (by decide) ?_
  refine ro_lconst (v := 1) F dX0_isTwo_3 (by decide) ?_
  refine co_cS (rest := []) F hA (metX0_in (gx_l g) x ad ds m (v.toInt64) 0 1 ) cwX0_103 hdX0_in.2 rfl (Nat.le_of_ble_eq_true rfl) (Nat.le_of_ble_eq_true rfl) (Nat.le_refl _) (Nat.le_refl _) rfl (Nat.le_of_ble_eq_true rfl) dX0_isTwo_4 ?_
  exact hret _ _ _ _ _ _ (Nat.le_refl _) (Nat.le_refl _) dX0_isTwo_7 b2_nar ⟨rfl, rfl⟩
set_option maxHeartbeats 4000000 in
set_option maxRecDepth 100000 in
theorem metX0_isDay (l : Launch) (x : Hx) (ad : Nat → Nat) (ds : Nat → Option Lay) (m : Mem) (v : Int32)  : Cn l yX0_isDay (ws_ yX0_isDay cX0_isDay 1 (some .boolean)) 2 0 0 [.int v] (PicH x) (KC x) (hx_A x) (ad, ds, m) (fun rv_ w_ => rv_ = some (.int (b2 (¬ ((v.toInt64) < 0) ∧ (¬ ((19) < (v.toInt64)))))) ∧ w_ = (ad, ds, m)) := by
  refine cn_i (own := RX0) rfl (Nat.le_of_ble_eq_true rfl) rfl (fun g hgl hA F hret => ?_)
  refine Wd.eql (lv' := [(0, .int v)]) rfl ?_
  refine ro_iload_n F dX0_isDay_0 0 rfl ?_
  refine ro_i2l F dX0_isDay_1 ?_
  refine ro_lconst (v := 0) F dX0_isDay_2 (by decide) ?_
  refine ro_ldc2 F q725 dX0_isDay_3 ?_
  refine co_cS (rest := []) F hA (metX0_in (gx_l g) x ad ds m (v.toInt64) 0 (19) ) cwX0_103 hdX0_in.2 rfl (Nat.le_of_ble_eq_true rfl) (Nat.le_of_ble_eq_true rfl) (Nat.le_refl _) (Nat.le_refl _) rfl (Nat.le_of_ble_eq_true rfl) dX0_isDay_6 ?_
  exact hret _ _ _ _ _ _ (Nat.le_refl _) (Nat.le_refl _) dX0_isDay_9 b2_nar ⟨rfl, rfl⟩
set_option maxHeartbeats 4000000 in
set_option maxRecDepth 100000 in
theorem metX0_isSheet (l : Launch) (x : Hx) (ad : Nat → Nat) (ds : Nat → Option Lay) (m : Mem) (v : Int32)  : Cn l yX0_isSheet (ws_ yX0_isSheet cX0_isSheet 1 (some .boolean)) 2 0 0 [.int v] (PicH x) (KC x) (hx_A x) (ad, ds, m) (fun rv_ w_ => rv_ = some (.int (b2 (¬ ((v.toInt64) < 0) ∧ (¬ ((3) < (v.toInt64)))))) ∧ w_ = (ad, ds, m)) := by
  refine cn_i (own := RX0) rfl (Nat.le_of_ble_eq_true rfl) rfl (fun g hgl hA F hret => ?_)
  refine Wd.eql (lv' := [(0, .int v)]) rfl ?_
  refine ro_iload_n F dX0_isSheet_0 0 rfl ?_
  refine ro_i2l F dX0_isSheet_1 ?_
  refine ro_lconst (v := 0) F dX0_isSheet_2 (by decide) ?_
  refine ro_ldc2 F q757 dX0_isSheet_3 ?_
  refine co_cS (rest := []) F hA (metX0_in (gx_l g) x ad ds m (v.toInt64) 0 (3) ) cwX0_103 hdX0_in.2 rfl (Nat.le_of_ble_eq_true rfl) (Nat.le_of_ble_eq_true rfl) (Nat.le_refl _) (Nat.le_refl _) rfl (Nat.le_of_ble_eq_true rfl) dX0_isSheet_6 ?_
  exact hret _ _ _ _ _ _ (Nat.le_refl _) (Nat.le_refl _) dX0_isSheet_9 b2_nar ⟨rfl, rfl⟩
set_option maxHeartbeats 4000000 in
set_option maxRecDepth 100000 in
theorem metX0_isIn (l : Launch) (x : Hx) (ad : Nat → Nat) (ds : Nat → Option Lay) (m : Mem) (bits : Int32) (k : Int32)  : Cn l yX0_isIn (ws_ yX0_isIn cX0_isIn 2 (some .boolean)) 1 0 0 [.int bits, .int k] (PicH x) (KC x) (hx_A x) (ad, ds, m) (fun rv_ w_ => rv_ = some (.int (b2 (((bits >>> (k &&& 31)) &&& (nI 1)) = (nI 1)))) ∧ w_ = (ad, ds, m)) := by
  refine cn_i (own := RX0) rfl (Nat.le_of_ble_eq_true rfl) rfl (fun g hgl hA F hret => ?_)
  refine Wd.eql (lv' := [(0, .int bits), (1, .int k)]) rfl ?_
  refine ro_iload_n F dX0_isIn_0 0 rfl ?_
  refine ro_iload_n F dX0_isIn_1 1 rfl ?_
  refine ro_ishr F dX0_isIn_2 ?_
  refine ro_iconst (v := (nI 1)) F dX0_isIn_3 (by decide) ?_
  refine ro_iand F dX0_isIn_4 ?_
  refine ro_iconst (v := (nI 1)) F dX0_isIn_5 (by decide) ?_
  have J14_6 : Wd (PicH x) g 2 (ad, ds, m) 0 0 14 [] [.int (b2 (((bits >>> (k &&& 31)) &&& (nI 1)) = (nI 1)))] := by
    exact hret _ _ _ _ _ _ (Nat.le_refl _) (Nat.le_refl _) dX0_isIn_14 b2_nar ⟨rfl, rfl⟩
  refine ro_icmp_ne (tgt := 13) F dX0_isIn_6 (by decide) (fun c6 => ?_) (fun c6 => ?_)
  · refine ro_iconst (v := (nI 0)) F dX0_isIn_13 (by decide) ?_
    exact Wd.sub (lv' := []) [] rfl <| Wd.to J14_6 rfl rfl (congrArg (fun z => ([Value.int z] : List Value)) ((b2_f (by simp [c6])).symm))
  · refine ro_iconst (v := (nI 1)) F dX0_isIn_9 (by decide) ?_
    refine ro_goto (tgt := 14) F dX0_isIn_10 (by decide) ?_
    exact Wd.sub (lv' := []) [] rfl <| Wd.to J14_6 rfl rfl (congrArg (fun z => ([Value.int z] : List Value)) ((b2_t (by simp [c6])).symm))
set_option maxHeartbeats 4000000 in
set_option maxRecDepth 100000 in
theorem metX0_no (l : Launch) (x : Hx) (ad : Nat → Nat) (ds : Nat → Option Lay) (m : Mem) (r : Int32)  : Cn l yX0_no (ws_ yX0_no cX0_no 1 (some .long)) 1 0 0 [.int r] (PicH x) (KC x) (hx_A x) (ad, ds, m) (fun rv_ w_ => rv_ = some (.long ((-9223372036854775808) - (r.toInt64))) ∧ w_ = (ad, ds, m)) := by
  refine cn_l (own := RX0) rfl (Nat.le_of_ble_eq_true rfl) rfl (fun g hgl hA F hret => ?_)
  refine Wd.eql (lv' := [(0, .int r)]) rfl ?_
  refine ro_ldc2 F q992 dX0_no_0 ?_
  refine ro_iload_n F dX0_no_3 0 rfl ?_
  refine ro_i2l F dX0_no_4 ?_
  refine ro_lsub F dX0_no_5 ?_
  exact hret _ _ _ _ _ _ (Nat.le_refl _) (Nat.le_refl _) dX0_no_6 ⟨rfl, rfl⟩
noncomputable def lX0_isWar_4 (d : Nat) (m : Mem) (i4 : Nat) (b4 : Int32) : Int32 := (b4 ||| (b2 (((m (5 + 64 * (i4 + 1)) 0) = (nI d)) ∧ (¬ ((((m 0 13) >>> ((nI i4) &&& 31)) &&& (nI 1)) = (nI 1))))))
noncomputable def rX0_isWar (d : Nat) (nw : Nat) (m : Mem) : Int32 := (it (lX0_isWar_4 d m) (nI 0) nw)
set_option maxHeartbeats 4000000 in
set_option maxRecDepth 100000 in
theorem metX0_isWar (l : Launch) (x : Hx) (ad : Nat → Nat) (ds : Nat → Option Lay) (m : Mem) (d : Nat) (ns : Nat) (np : Nat) (nc : Nat) (nw : Nat) (ne : Nat) (eB : Nat → Nat) (wy : Nat → Nat) (q : Nat → Nat) (N : Nat → Nat) (hD : DD ds ns np nc nw ne eB wy q N) (hn3 : m 5 2 = nI nw) (hd : d < 20) : Cn l yX0_isWar (ws_ yX0_isWar cX0_isWar 4 (some .boolean)) 5 0 0 [.ref (ad 0), .int (nI d)] (PicH x) (KC x) (hx_A x) (ad, ds, m) (fun rv_ w_ => rv_ = some (.int (rX0_isWar d nw m)) ∧ w_ = (ad, ds, m)) := by
  refine cn_i (own := RX0) rfl (Nat.le_of_ble_eq_true rfl) rfl (fun g hgl hA F hret => ?_)
  refine Wd.eql (lv' := [(0, .ref (ad 0)), (1, .int (nI d))]) rfl ?_
  have hD_ := hD
  obtain ⟨hds, ⟨hL0, hL1, hL2, hL3, hL4⟩, ⟨hS, hB, hC, hW, hE⟩, rB, hwy, lns, lnp, lnc, lnw, lne⟩ := hD_
  refine ro_iconst (v := (nI 0)) F dX0_isWar_0 (by decide) ?_
  refine ro_istore_n (lv' := [(0, .ref (ad 0)), (1, .int (nI d)), (2, .int (nI 0))]) F dX0_isWar_1 (Nat.le_of_ble_eq_true rfl) [1, 2, 0] rfl ?_
  refine ro_iconst (v := (nI 0)) F dX0_isWar_2 (by decide) ?_
  refine ro_istore_n (lv' := [(0, .ref (ad 0)), (1, .int (nI d)), (2, .int (nI 0)), (3, .int (nI 0))]) F dX0_isWar_3 (Nat.le_of_ble_eq_true rfl) [1, 2, 3, 0] rfl ?_
  refine it_loop nw (lX0_isWar_4 d m) (nI 0) (fun _ _ => True) (fun (i4 : Nat) (b4 : Int32) => Wd (PicH x) g 4 (ad, ds, m) 0 0 4 [(0, .ref (ad 0)), (1, .int (nI d)), (2, .int b4), (3, .int (nI i4))] []) trivial (fun _ _ _ _ => trivial) (fun i4 b4 hi4 hf4 ih4 => ?_) (fun b4 hf4 he4 => ?_)
  · refine ro_iload_n F dX0_isWar_4 3 rfl ?_
    refine ro_aload_n F dX0_isWar_5 0 rfl ?_
    refine hh_get F F.k.1 in_X0 (F.k.c rfl) 0 (hds 0 _ rfl) 5 (by decide) qX0_38 (fun _ h => h) (Nat.le_of_ble_eq_true rfl) (v := .ref (ad 5)) rfl dX0_isWar_6 ?_
    refine cl_size F hA hL3 hn3 cwX0_170 (Nat.le_of_ble_eq_true rfl) (Nat.le_refl _) (Nat.le_refl _) (Nat.le_of_ble_eq_true rfl) dX0_isWar_9 ?_
    refine ro_icmp_geN (tgt := 57) F dX0_isWar_12 (by decide) (by omega) (by omega) (fun c12 => absurd c12 (by omega)) (fun c12 => ?_)
    refine ro_iload_n F dX0_isWar_15 2 rfl ?_
    refine ro_aload_n F dX0_isWar_16 0 rfl ?_
    refine hh_get F F.k.1 in_X0 (F.k.c rfl) 0 (hds 0 _ rfl) 5 (by decide) qX0_38 (fun _ h => h) (Nat.le_of_ble_eq_true rfl) (v := .ref (ad 5)) rfl dX0_isWar_17 ?_
    refine ro_iload_n F dX0_isWar_20 3 rfl ?_
    refine cl_get F hA hL3 hn3 (by omega) cwX0_147 (Nat.le_of_ble_eq_true rfl) (Nat.le_refl _) (Nat.le_refl _) (Nat.le_of_ble_eq_true rfl) dX0_isWar_21 ?_
    refine cc_castI F (p := (5 + 64 * (i4 + 1))) (hW i4 (by omega)) q791 dX0_isWar_24 ?_
    refine ro_iconst (v := (nI 0)) F dX0_isWar_27 (by decide) ?_
    refine hh_ldI F F.k.1 (5 + 64 * (i4 + 1)) 1 (hW i4 (by omega)) (by decide) (by omega) dX0_isWar_28 rfl ?_
    refine ro_iload_n F dX0_isWar_29 1 rfl ?_
    have J49_30 : Wd (PicH x) g 4 (ad, ds, m) 0 0 49 [(0, .ref (ad 0)), (1, .int (nI d)), (3, .int (nI i4))] [.int (b2 (((m (5 + 64 * (i4 + 1)) 0) = (nI d)) ∧ (¬ ((((m 0 13) >>> ((nI i4) &&& 31)) &&& (nI 1)) = (nI 1))))), .int b4] := by
      refine ro_ior F dX0_isWar_49 ?_
      refine ro_istore_n (lv' := [(0, .ref (ad 0)), (1, .int (nI d)), (2, .int (b4 ||| (b2 (((m (5 + 64 * (i4 + 1)) 0) = (nI d)) ∧ (¬ ((((m 0 13) >>> ((nI i4) &&& 31)) &&& (nI 1)) = (nI 1))))))), (3, .int (nI i4))]) F dX0_isWar_50 (Nat.le_of_ble_eq_true rfl) [1, 2, 0, 3] rfl ?_
      refine ro_iincN (z := 1) (lv' := [(0, .ref (ad 0)), (1, .int (nI d)), (2, .int (b4 ||| (b2 (((m (5 + 64 * (i4 + 1)) 0) = (nI d)) ∧ (¬ ((((m 0 13) >>> ((nI i4) &&& 31)) &&& (nI 1)) = (nI 1))))))), (3, .int (nI (i4 + 1)))]) F dX0_isWar_51 3 rfl (Nat.le_of_ble_eq_true rfl) [1, 2, 3, 0] rfl ?_
      refine ro_goto (tgt := 4) F dX0_isWar_54 (by decide) ?_
      exact ih4
    refine ro_icmp_ne (tgt := 48) F dX0_isWar_30 (by decide) (fun c30 => ?_) (fun c30 => ?_)
    · refine ro_iconst (v := (nI 0)) F dX0_isWar_48 (by decide) ?_
      exact Wd.sub (lv' := [(0, .ref (ad 0)), (1, .int (nI d)), (3, .int (nI i4))]) [0, 1, 3] rfl <| Wd.to J49_30 rfl rfl (congrArg (fun z => ([Value.int z, .int b4] : List Value)) ((b2_f (by simp [c30])).symm))
    · refine ro_aload_n F dX0_isWar_33 0 rfl ?_
      refine hh_get F F.k.1 in_X0 (F.k.c rfl) 0 (hds 0 _ rfl) 13 (by decide) qX0_205 (fun _ h => h) (Nat.le_of_ble_eq_true rfl) (v := .int (m 0 13)) (congrArg Value.int rfl) dX0_isWar_34 ?_
      refine ro_iload_n F dX0_isWar_37 3 rfl ?_
      refine co_cS (rest := [.int b4]) F hA (metX0_isIn (gx_l g) x ad ds m (m 0 13) (nI i4) ) cwX0_208 hdX0_isIn.2 rfl (Nat.le_of_ble_eq_true rfl) (Nat.le_of_ble_eq_true rfl) (Nat.le_refl _) (Nat.le_refl _) rfl (Nat.le_of_ble_eq_true rfl) dX0_isWar_38 ?_
      refine ro_if_neB (tgt := 48) F dX0_isWar_41 (by decide) (fun c41 => ?_) (fun c41 => ?_)
      · refine ro_iconst (v := (nI 0)) F dX0_isWar_48 (by decide) ?_
        exact Wd.sub (lv' := [(0, .ref (ad 0)), (1, .int (nI d)), (3, .int (nI i4))]) [0, 1, 3] rfl <| Wd.to J49_30 rfl rfl (congrArg (fun z => ([Value.int z, .int b4] : List Value)) ((b2_f (by simp [c30, c41])).symm))
      · refine ro_iconst (v := (nI 1)) F dX0_isWar_44 (by decide) ?_
        refine ro_goto (tgt := 49) F dX0_isWar_45 (by decide) ?_
        exact Wd.sub (lv' := [(0, .ref (ad 0)), (1, .int (nI d)), (3, .int (nI i4))]) [0, 1, 3] rfl <| Wd.to J49_30 rfl rfl (congrArg (fun z => ([Value.int z, .int b4] : List Value)) ((b2_t (by simp [c30, c41])).symm))
  subst he4
  refine ro_iload_n F dX0_isWar_4 3 rfl ?_
  refine ro_aload_n F dX0_isWar_5 0 rfl ?_
  refine hh_get F F.k.1 in_X0 (F.k.c rfl) 0 (hds 0 _ rfl) 5 (by decide) qX0_38 (fun _ h => h) (Nat.le_of_ble_eq_true rfl) (v := .ref (ad 5)) rfl dX0_isWar_6 ?_
  refine cl_size F hA hL3 hn3 cwX0_170 (Nat.le_of_ble_eq_true rfl) (Nat.le_refl _) (Nat.le_refl _) (Nat.le_of_ble_eq_true rfl) dX0_isWar_9 ?_
  refine ro_icmp_geN (tgt := 57) F dX0_isWar_12 (by decide) (by omega) (by omega) (fun c12 => ?_) (fun c12 => absurd c12 (by omega))
  refine ro_iload_n F dX0_isWar_57 2 rfl ?_
  exact hret _ _ _ _ _ _ (Nat.le_refl _) (Nat.le_refl _) dX0_isWar_58 (nar01 (it_inv (P := fun z => z = 0 ∨ z = 1) (Or.inl rfl) (fun _ _ h => or01 h) _)) ⟨congrArg (fun z => some (Value.int z)) (rfl), rfl⟩
noncomputable def fX0_mounts (d : Nat) (k : Nat) (wy : Nat → Nat) (m : Mem) : Mem := (m2 (m2 (m2 m (6 + 64 * (d + 1)) k ((wy_m (wy k) (if d = 0 then (nI 0) else (m (6 + 64 * ((d - 1) + 1)) k))) + ((m (32 + 64 * (k + 1)) 0) * (m 3 0)))) (7 + 64 * (d + 1)) k (nI 0)) (8 + 64 * (d + 1)) k (nI 0))
theorem fr_fX0_mounts (d : Nat) (k : Nat) (wy : Nat → Nat) (m : Mem) (f : Nat) (h6 : f % 64 ≠ 6) (h7 : f % 64 ≠ 7) (h8 : f % 64 ≠ 8) : fX0_mounts d k wy m f = m f := (m2_ff _ _ (by omega)).trans ((m2_ff _ _ (by omega)).trans ((m2_ff _ _ (by omega)).trans (rfl)))
set_option maxHeartbeats 4000000 in
set_option maxRecDepth 100000 in
theorem metX0_mounts (l : Launch) (x : Hx) (ad : Nat → Nat) (ds : Nat → Option Lay) (m : Mem) (d : Nat) (k : Nat) (ns : Nat) (np : Nat) (nc : Nat) (nw : Nat) (ne : Nat) (eB : Nat → Nat) (wy : Nat → Nat) (q : Nat → Nat) (N : Nat → Nat) (hD : DD ds ns np nc nw ne eB wy q N) (hn0 : m 32 2 = nI ns) (hd : d < 20) (hk : k < ns) : Cn l yX0_mounts (ws_ yX0_mounts cX0_mounts 4 none) 5 0 0 [.ref (ad 0), .int (nI d), .int (nI k)] (PicH x) (KC x) (hx_A x) (ad, ds, m) (fun rv_ w_ => rv_ = none ∧ w_ = (ad, ds, (fX0_mounts d k wy m))) := by
  refine cn_v (own := RX0) rfl (Nat.le_of_ble_eq_true rfl) rfl (fun g hgl hA F hret => ?_)
  refine Wd.eql (lv' := [(0, .ref (ad 0)), (1, .int (nI d)), (2, .int (nI k))]) rfl ?_
  have hD_ := hD
  obtain ⟨hds, ⟨hL0, hL1, hL2, hL3, hL4⟩, ⟨hS, hB, hC, hW, hE⟩, rB, hwy, lns, lnp, lnc, lnw, lne⟩ := hD_
  refine ro_aload_n F dX0_mounts_0 0 rfl ?_
  refine hh_get F F.k.1 in_X0 (F.k.c rfl) 0 (hds 0 _ rfl) 1 (by decide) qX0_14 (fun _ h => h) (Nat.le_of_ble_eq_true rfl) (v := .ref (ad 1)) rfl dX0_mounts_1 ?_
  refine hh_get F F.k.1 in_X2 (F.k.c rfl) 1 (hds 1 _ rfl) 6 (by decide) qX0_144 (u_same (F.ts _ q160)) (Nat.le_of_ble_eq_true rfl) (v := .ref (ad 32)) rfl dX0_mounts_4 ?_
  refine ro_iload_n F dX0_mounts_7 2 rfl ?_
  refine cl_get F hA hL0 hn0 (by omega) cwX0_147 (Nat.le_of_ble_eq_true rfl) (Nat.le_refl _) (Nat.le_refl _) (Nat.le_of_ble_eq_true rfl) dX0_mounts_8 ?_
  refine cc_cast F (p := (32 + 64 * (k + 1))) (hS k (by omega)) (ci := 5) rfl q682 dX0_mounts_11 ?_
  refine ro_astore_n (lv' := [(0, .ref (ad 0)), (1, .int (nI d)), (2, .int (nI k)), (3, .ref (ad (32 + 64 * (k + 1))))]) F dX0_mounts_14 (Nat.le_of_ble_eq_true rfl) [1, 2, 3, 0] rfl ?_
  refine ro_aload_n F dX0_mounts_15 0 rfl ?_
  refine hh_get F F.k.1 in_X0 (F.k.c rfl) 0 (hds 0 _ rfl) 6 (by decide) qX0_43 (fun _ h => h) (Nat.le_of_ble_eq_true rfl) (v := .ref (ad 6)) rfl dX0_mounts_16 ?_
  refine ro_iload_n F dX0_mounts_19 1 rfl ?_
  refine hh_ldA F F.k.1 6 5 20 (hds 6 _ rfl) (by decide) rfl (by decide) (q := 6 + 64 * (d + 1)) (by omega) dX0_mounts_20 (rw_at (by omega)) ?_
  refine ro_iload_n F dX0_mounts_21 2 rfl ?_
  refine ro_aload_n F dX0_mounts_22 3 rfl ?_
  refine hh_getN F F.k.1 in_X8 (F.k.c rfl) (32 + 64 * (k + 1)) (hS k (by omega)) 1 (by decide) F.k.2.2.1.1 (fun _ h => h) (Nat.le_of_ble_eq_true rfl) (v := .ref (ad (wy k))) rfl dX0_mounts_23 ?_
  refine ro_iload_n F dX0_mounts_26 1 rfl ?_
  have J44_27 : Wd (PicH x) g 4 (ad, ds, m) 0 0 44 [(0, .ref (ad 0)), (1, .int (nI d)), (2, .int (nI k)), (3, .ref (ad (32 + 64 * (k + 1))))] [.int (if d = 0 then (nI 0) else (m (6 + 64 * ((d - 1) + 1)) k)), .ref (ad (wy k)), .int (nI k), .ref (ad (6 + 64 * (d + 1)))] := by
    refine cc_mounts F hA hds (hwy k) (Nat.le_of_ble_eq_true rfl) (Nat.le_refl _) (Nat.le_refl _) (Nat.le_of_ble_eq_true rfl) dX0_mounts_44 ?_
    refine ro_aload_n F dX0_mounts_47 3 rfl ?_
    refine hh_getN F F.k.1 in_X8 (F.k.c rfl) (32 + 64 * (k + 1)) (hS k (by omega)) 0 (by decide) F.k.2.2.1.2.1 (fun _ h => h) (Nat.le_of_ble_eq_true rfl) (v := .int (m (32 + 64 * (k + 1)) 0)) (congrArg Value.int rfl) dX0_mounts_48 ?_
    refine ro_aload_n F dX0_mounts_51 0 rfl ?_
    refine hh_get F F.k.1 in_X0 (F.k.c rfl) 0 (hds 0 _ rfl) 3 (by decide) qX0_27 (fun _ h => h) (Nat.le_of_ble_eq_true rfl) (v := .ref (ad 3)) rfl dX0_mounts_52 ?_
    refine ro_iconst (v := (nI 0)) F dX0_mounts_55 (by decide) ?_
    refine hh_ldI F F.k.1 3 2 (hds 3 _ rfl) (by decide) (by omega) dX0_mounts_56 rfl ?_
    refine ro_imul F dX0_mounts_57 ?_
    refine ro_iadd F dX0_mounts_58 ?_
    refine hh_stI F F.k.1 hA (6 + 64 * (d + 1)) 8 (hds _ _ (fix_6 (by omega))) (by omega) (by decide) (by omega) dX0_mounts_59 ?_
    refine ro_aload_n F dX0_mounts_60 0 rfl ?_
    refine hh_get F F.k.1 in_X0 (F.k.c rfl) 0 (hds 0 _ rfl) 7 (by decide) qX0_46 (fun _ h => h) (Nat.le_of_ble_eq_true rfl) (v := .ref (ad 7)) rfl dX0_mounts_61 ?_
    refine ro_iload_n F dX0_mounts_64 1 rfl ?_
    refine hh_ldA F F.k.1 7 5 20 (hds 7 _ rfl) (by decide) rfl (by decide) (q := 7 + 64 * (d + 1)) (by omega) dX0_mounts_65 (rw_at (by omega)) ?_
    refine ro_iload_n F dX0_mounts_66 2 rfl ?_
    refine ro_iconst (v := (nI 0)) F dX0_mounts_67 (by decide) ?_
    refine hh_stI F F.k.1 hA (7 + 64 * (d + 1)) 8 (hds _ _ (fix_7 (by omega))) (by omega) (by decide) (by omega) dX0_mounts_68 ?_
    refine ro_aload_n F dX0_mounts_69 0 rfl ?_
    refine hh_get F F.k.1 in_X0 (F.k.c rfl) 0 (hds 0 _ rfl) 8 (by decide) qX0_49 (fun _ h => h) (Nat.le_of_ble_eq_true rfl) (v := .ref (ad 8)) rfl dX0_mounts_70 ?_
    refine ro_iload_n F dX0_mounts_73 1 rfl ?_
    refine hh_ldA F F.k.1 8 5 20 (hds 8 _ rfl) (by decide) rfl (by decide) (q := 8 + 64 * (d + 1)) (by omega) dX0_mounts_74 (rw_at (by omega)) ?_
    refine ro_iload_n F dX0_mounts_75 2 rfl ?_
    refine ro_iconst (v := (nI 0)) F dX0_mounts_76 (by decide) ?_
    refine hh_stI F F.k.1 hA (8 + 64 * (d + 1)) 8 (hds _ _ (fix_8 (by omega))) (by omega) (by decide) (by omega) dX0_mounts_77 ?_
    exact hret _ _ _ _ _ (Nat.le_refl _) (Nat.le_refl _) dX0_mounts_78 ⟨rfl, rfl⟩
  refine ro_if_neN (tgt := 34) F dX0_mounts_27 (by decide) (by omega) (fun c27 => ?_) (fun c27 => ?_)
  · refine ro_aload_n F dX0_mounts_34 0 rfl ?_
    refine hh_get F F.k.1 in_X0 (F.k.c rfl) 0 (hds 0 _ rfl) 6 (by decide) qX0_43 (fun _ h => h) (Nat.le_of_ble_eq_true rfl) (v := .ref (ad 6)) rfl dX0_mounts_35 ?_
    refine ro_iload_n F dX0_mounts_38 1 rfl ?_
    refine ro_iconst (v := (nI 1)) F dX0_mounts_39 (by decide) ?_
    refine ro_isubN F (by omega) dX0_mounts_40 ?_
    refine hh_ldA F F.k.1 6 5 20 (hds 6 _ rfl) (by decide) rfl (by decide) (q := 6 + 64 * ((d - 1) + 1)) (by omega) dX0_mounts_41 (rw_at (by omega)) ?_
    refine ro_iload_n F dX0_mounts_42 2 rfl ?_
    refine hh_ldI F F.k.1 (6 + 64 * ((d - 1) + 1)) 8 (hds _ _ (fix_6 (by omega))) (by decide) (by omega) dX0_mounts_43 rfl ?_
    exact Wd.to J44_27 rfl rfl (congrArg (fun z => ([Value.int z, .ref (ad (wy k)), .int (nI k), .ref (ad (6 + 64 * (d + 1)))] : List Value)) (by simp only [if_neg c27]))
  · refine ro_iconst (v := (nI 0)) F dX0_mounts_30 (by decide) ?_
    refine ro_goto (tgt := 44) F dX0_mounts_31 (by decide) ?_
    exact Wd.to J44_27 rfl rfl (congrArg (fun z => ([Value.int z, .ref (ad (wy k)), .int (nI k), .ref (ad (6 + 64 * (d + 1)))] : List Value)) (by simp only [if_pos c27]))
noncomputable def rX0_hears (d : Nat) (k : Nat) (p : Nat) (er : Nat) (m : Mem) : Int32 := (er_h er (m (6 + 64 * (d + 1)) k) (m (9 + 64 * (d + 1)) p))
noncomputable def fX0_hears (d : Nat) (k : Nat) (p : Nat) (er : Nat) (m : Mem) : Mem := (m2 (m2 (m2 m (9 + 64 * (d + 1)) p ((m (9 + 64 * (d + 1)) p) - (er_t er (er_h er (m (6 + 64 * (d + 1)) k) (m (9 + 64 * (d + 1)) p))))) (6 + 64 * (d + 1)) k ((m (6 + 64 * (d + 1)) k) - (er_h er (m (6 + 64 * (d + 1)) k) (m (9 + 64 * (d + 1)) p)))) (7 + 64 * (d + 1)) k ((m (7 + 64 * (d + 1)) k) + (er_h er (m (6 + 64 * (d + 1)) k) (m (9 + 64 * (d + 1)) p))))
theorem fr_fX0_hears (d : Nat) (k : Nat) (p : Nat) (er : Nat) (m : Mem) (f : Nat) (h6 : f % 64 ≠ 6) (h7 : f % 64 ≠ 7) (h9 : f % 64 ≠ 9) : fX0_hears d k p er m f = m f := (m2_ff _ _ (by omega)).trans ((m2_ff _ _ (by omega)).trans ((m2_ff _ _ (by omega)).trans (rfl)))
set_option maxHeartbeats 4000000 in
set_option maxRecDepth 100000 in
theorem metX0_hears (l : Launch) (x : Hx) (ad : Nat → Nat) (ds : Nat → Option Lay) (m : Mem) (d : Nat) (k : Nat) (p : Nat) (er : Nat) (ns : Nat) (np : Nat) (nc : Nat) (nw : Nat) (ne : Nat) (eB : Nat → Nat) (wy : Nat → Nat) (q : Nat → Nat) (N : Nat → Nat) (hD : DD ds ns np nc nw ne eB wy q N) (hd : d < 20) (hk : k < 8) (hp : p < 9) (her : er = 61 ∨ er = 62) : Cn l yX0_hears (ws_ yX0_hears cX0_hears 6 (some .int)) 5 0 0 [.ref (ad 0), .int (nI d), .int (nI k), .int (nI p), .ref (ad er)] (PicH x) (KC x) (hx_A x) (ad, ds, m) (fun rv_ w_ => rv_ = some (.int (rX0_hears d k p er m)) ∧ w_ = (ad, ds, (fX0_hears d k p er m))) := by
  refine cn_i (own := RX0) rfl (Nat.le_of_ble_eq_true rfl) rfl (fun g hgl hA F hret => ?_)
  refine Wd.eql (lv' := [(0, .ref (ad 0)), (1, .int (nI d)), (2, .int (nI k)), (3, .int (nI p)), (4, .ref (ad er))]) rfl ?_
  have hD_ := hD
  obtain ⟨hds, ⟨hL0, hL1, hL2, hL3, hL4⟩, ⟨hS, hB, hC, hW, hE⟩, rB, hwy, lns, lnp, lnc, lnw, lne⟩ := hD_
  refine ro_aload F dX0_hears_0 4 rfl ?_
  refine ro_aload_n F dX0_hears_2 0 rfl ?_
  refine hh_get F F.k.1 in_X0 (F.k.c rfl) 0 (hds 0 _ rfl) 6 (by decide) qX0_43 (fun _ h => h) (Nat.le_of_ble_eq_true rfl) (v := .ref (ad 6)) rfl dX0_hears_3 ?_
  refine ro_iload_n F dX0_hears_6 1 rfl ?_
  refine hh_ldA F F.k.1 6 5 20 (hds 6 _ rfl) (by decide) rfl (by decide) (q := 6 + 64 * (d + 1)) (by omega) dX0_hears_7 (rw_at (by omega)) ?_
  refine ro_iload_n F dX0_hears_8 2 rfl ?_
  refine hh_ldI F F.k.1 (6 + 64 * (d + 1)) 8 (hds _ _ (fix_6 (by omega))) (by decide) (by omega) dX0_hears_9 rfl ?_
  refine ro_aload_n F dX0_hears_10 0 rfl ?_
  refine hh_get F F.k.1 in_X0 (F.k.c rfl) 0 (hds 0 _ rfl) 9 (by decide) qX0_52 (fun _ h => h) (Nat.le_of_ble_eq_true rfl) (v := .ref (ad 9)) rfl dX0_hears_11 ?_
  refine ro_iload_n F dX0_hears_14 1 rfl ?_
  refine hh_ldA F F.k.1 9 5 20 (hds 9 _ rfl) (by decide) rfl (by decide) (q := 9 + 64 * (d + 1)) (by omega) dX0_hears_15 (rw_at (by omega)) ?_
  refine ro_iload_n F dX0_hears_16 3 rfl ?_
  refine hh_ldI F F.k.1 (9 + 64 * (d + 1)) 9 (hds _ _ (fix_9 (by omega))) (by decide) (by omega) dX0_hears_17 rfl ?_
  refine cc_hears F hA hds her (Nat.le_of_ble_eq_true rfl) (Nat.le_refl _) (Nat.le_refl _) (Nat.le_of_ble_eq_true rfl) dX0_hears_18 ?_
  refine ro_istore (lv' := [(0, .ref (ad 0)), (1, .int (nI d)), (2, .int (nI k)), (3, .int (nI p)), (4, .ref (ad er)), (5, .int (er_h er (m (6 + 64 * (d + 1)) k) (m (9 + 64 * (d + 1)) p)))]) F dX0_hears_21 (Nat.le_of_ble_eq_true rfl) [1, 2, 3, 4, 5, 0] rfl ?_
  refine ro_aload_n F dX0_hears_23 0 rfl ?_
  refine hh_get F F.k.1 in_X0 (F.k.c rfl) 0 (hds 0 _ rfl) 9 (by decide) qX0_52 (fun _ h => h) (Nat.le_of_ble_eq_true rfl) (v := .ref (ad 9)) rfl dX0_hears_24 ?_
  refine ro_iload_n F dX0_hears_27 1 rfl ?_
  refine hh_ldA F F.k.1 9 5 20 (hds 9 _ rfl) (by decide) rfl (by decide) (q := 9 + 64 * (d + 1)) (by omega) dX0_hears_28 (rw_at (by omega)) ?_
  refine ro_iload_n F dX0_hears_29 3 rfl ?_
  refine ro_dup2 F dX0_hears_30 rfl rfl ?_
  refine hh_ldI F F.k.1 (9 + 64 * (d + 1)) 9 (hds _ _ (fix_9 (by omega))) (by decide) (by omega) dX0_hears_31 rfl ?_
  refine ro_aload F dX0_hears_32 4 rfl ?_
  refine ro_iload F dX0_hears_34 5 rfl ?_
  refine cc_takes F hA hds her (Nat.le_of_ble_eq_true rfl) (Nat.le_refl _) (Nat.le_refl _) (Nat.le_of_ble_eq_true rfl) dX0_hears_36 ?_
  refine ro_isub F dX0_hears_39 ?_
  refine hh_stI F F.k.1 hA (9 + 64 * (d + 1)) 9 (hds _ _ (fix_9 (by omega))) (by omega) (by decide) (by omega) dX0_hears_40 ?_
  refine ro_aload_n F dX0_hears_41 0 rfl ?_
  refine hh_get F F.k.1 in_X0 (F.k.c rfl) 0 (hds 0 _ rfl) 6 (by decide) qX0_43 (fun _ h => h) (Nat.le_of_ble_eq_true rfl) (v := .ref (ad 6)) rfl dX0_hears_42 ?_
  refine ro_iload_n F dX0_hears_45 1 rfl ?_
  refine hh_ldA F F.k.1 6 5 20 (hds 6 _ rfl) (by decide) rfl (by decide) (q := 6 + 64 * (d + 1)) (by omega) dX0_hears_46 (rw_at (by omega)) ?_
  refine ro_iload_n F dX0_hears_47 2 rfl ?_
  refine ro_dup2 F dX0_hears_48 rfl rfl ?_
  refine hh_ldI F F.k.1 (6 + 64 * (d + 1)) 8 (hds _ _ (fix_6 (by omega))) (by decide) (by omega) dX0_hears_49 (m2_f _ _ (by omega)) ?_
  refine ro_iload F dX0_hears_50 5 rfl ?_
  refine ro_isub F dX0_hears_52 ?_
  refine hh_stI F F.k.1 hA (6 + 64 * (d + 1)) 8 (hds _ _ (fix_6 (by omega))) (by omega) (by decide) (by omega) dX0_hears_53 ?_
  refine ro_aload_n F dX0_hears_54 0 rfl ?_
  refine hh_get F F.k.1 in_X0 (F.k.c rfl) 0 (hds 0 _ rfl) 7 (by decide) qX0_46 (fun _ h => h) (Nat.le_of_ble_eq_true rfl) (v := .ref (ad 7)) rfl dX0_hears_55 ?_
  refine ro_iload_n F dX0_hears_58 1 rfl ?_
  refine hh_ldA F F.k.1 7 5 20 (hds 7 _ rfl) (by decide) rfl (by decide) (q := 7 + 64 * (d + 1)) (by omega) dX0_hears_59 (rw_at (by omega)) ?_
  refine ro_iload_n F dX0_hears_60 2 rfl ?_
  refine ro_dup2 F dX0_hears_61 rfl rfl ?_
  refine hh_ldI F F.k.1 (7 + 64 * (d + 1)) 8 (hds _ _ (fix_7 (by omega))) (by decide) (by omega) dX0_hears_62 ((m2_f _ _ (by omega)).trans (m2_f _ _ (by omega))) ?_
  refine ro_iload F dX0_hears_63 5 rfl ?_
  refine ro_iadd F dX0_hears_65 ?_
  refine hh_stI F F.k.1 hA (7 + 64 * (d + 1)) 8 (hds _ _ (fix_7 (by omega))) (by omega) (by decide) (by omega) dX0_hears_66 ?_
  refine ro_iload F dX0_hears_67 5 rfl ?_
  exact hret _ _ _ _ _ _ (Nat.le_refl _) (Nat.le_refl _) dX0_hears_69 rfl ⟨congrArg (fun z => some (Value.int z)) (rfl), rfl⟩
noncomputable def lX0_allOwed_4 (d : Nat) (m : Mem) (i4 : Nat) (b4 : Int32) : Int32 := (b4 + (m (6 + 64 * (d + 1)) i4))
noncomputable def rX0_allOwed (d : Nat) (ns : Nat) (m : Mem) : Int32 := (it (lX0_allOwed_4 d m) (nI 0) ns)
set_option maxHeartbeats 4000000 in
set_option maxRecDepth 100000 in
theorem metX0_allOwed (l : Launch) (x : Hx) (ad : Nat → Nat) (ds : Nat → Option Lay) (m : Mem) (d : Nat) (ns : Nat) (np : Nat) (nc : Nat) (nw : Nat) (ne : Nat) (eB : Nat → Nat) (wy : Nat → Nat) (q : Nat → Nat) (N : Nat → Nat) (hD : DD ds ns np nc nw ne eB wy q N) (hn0 : m 32 2 = nI ns) (hd : d < 20) : Cn l yX0_allOwed (ws_ yX0_allOwed cX0_allOwed 4 (some .int)) 5 0 0 [.ref (ad 0), .int (nI d)] (PicH x) (KC x) (hx_A x) (ad, ds, m) (fun rv_ w_ => rv_ = some (.int (rX0_allOwed d ns m)) ∧ w_ = (ad, ds, m)) := by
  refine cn_i (own := RX0) rfl (Nat.le_of_ble_eq_true rfl) rfl (fun g hgl hA F hret => ?_)
  refine Wd.eql (lv' := [(0, .ref (ad 0)), (1, .int (nI d))]) rfl ?_
  have hD_ := hD
  obtain ⟨hds, ⟨hL0, hL1, hL2, hL3, hL4⟩, ⟨hS, hB, hC, hW, hE⟩, rB, hwy, lns, lnp, lnc, lnw, lne⟩ := hD_
  refine ro_iconst (v := (nI 0)) F dX0_allOwed_0 (by decide) ?_
  refine ro_istore_n (lv' := [(0, .ref (ad 0)), (1, .int (nI d)), (2, .int (nI 0))]) F dX0_allOwed_1 (Nat.le_of_ble_eq_true rfl) [1, 2, 0] rfl ?_
  refine ro_iconst (v := (nI 0)) F dX0_allOwed_2 (by decide) ?_
  refine ro_istore_n (lv' := [(0, .ref (ad 0)), (1, .int (nI d)), (2, .int (nI 0)), (3, .int (nI 0))]) F dX0_allOwed_3 (Nat.le_of_ble_eq_true rfl) [1, 2, 3, 0] rfl ?_
  refine it_loop ns (lX0_allOwed_4 d m) (nI 0) (fun _ _ => True) (fun (i4 : Nat) (b4 : Int32) => Wd (PicH x) g 4 (ad, ds, m) 0 0 4 [(0, .ref (ad 0)), (1, .int (nI d)), (2, .int b4), (3, .int (nI i4))] []) trivial (fun _ _ _ _ => trivial) (fun i4 b4 hi4 hf4 ih4 => ?_) (fun b4 hf4 he4 => ?_)
  · refine ro_iload_n F dX0_allOwed_4 3 rfl ?_
    refine ro_aload_n F dX0_allOwed_5 0 rfl ?_
    refine hh_get F F.k.1 in_X0 (F.k.c rfl) 0 (hds 0 _ rfl) 1 (by decide) qX0_14 (fun _ h => h) (Nat.le_of_ble_eq_true rfl) (v := .ref (ad 1)) rfl dX0_allOwed_6 ?_
    refine hh_get F F.k.1 in_X2 (F.k.c rfl) 1 (hds 1 _ rfl) 6 (by decide) qX0_144 (u_same (F.ts _ q160)) (Nat.le_of_ble_eq_true rfl) (v := .ref (ad 32)) rfl dX0_allOwed_9 ?_
    refine cl_size F hA hL0 hn0 cwX0_170 (Nat.le_of_ble_eq_true rfl) (Nat.le_refl _) (Nat.le_refl _) (Nat.le_of_ble_eq_true rfl) dX0_allOwed_12 ?_
    refine ro_icmp_geN (tgt := 35) F dX0_allOwed_15 (by decide) (by omega) (by omega) (fun c15 => absurd c15 (by omega)) (fun c15 => ?_)
    refine ro_iload_n F dX0_allOwed_18 2 rfl ?_
    refine ro_aload_n F dX0_allOwed_19 0 rfl ?_
    refine hh_get F F.k.1 in_X0 (F.k.c rfl) 0 (hds 0 _ rfl) 6 (by decide) qX0_43 (fun _ h => h) (Nat.le_of_ble_eq_true rfl) (v := .ref (ad 6)) rfl dX0_allOwed_20 ?_
    refine ro_iload_n F dX0_allOwed_23 1 rfl ?_
    refine hh_ldA F F.k.1 6 5 20 (hds 6 _ rfl) (by decide) rfl (by decide) (q := 6 + 64 * (d + 1)) (by omega) dX0_allOwed_24 (rw_at (by omega)) ?_
    refine ro_iload_n F dX0_allOwed_25 3 rfl ?_
    refine hh_ldI F F.k.1 (6 + 64 * (d + 1)) 8 (hds _ _ (fix_6 (by omega))) (by decide) (by omega) dX0_allOwed_26 rfl ?_
    refine ro_iadd F dX0_allOwed_27 ?_
    refine ro_istore_n (lv' := [(0, .ref (ad 0)), (1, .int (nI d)), (2, .int (b4 + (m (6 + 64 * (d + 1)) i4))), (3, .int (nI i4))]) F dX0_allOwed_28 (Nat.le_of_ble_eq_true rfl) [1, 2, 0, 3] rfl ?_
    refine ro_iincN (z := 1) (lv' := [(0, .ref (ad 0)), (1, .int (nI d)), (2, .int (b4 + (m (6 + 64 * (d + 1)) i4))), (3, .int (nI (i4 + 1)))]) F dX0_allOwed_29 3 rfl (Nat.le_of_ble_eq_true rfl) [1, 2, 3, 0] rfl ?_
    refine ro_goto (tgt := 4) F dX0_allOwed_32 (by decide) ?_
    exact ih4
  subst he4
  refine ro_iload_n F dX0_allOwed_4 3 rfl ?_
  refine ro_aload_n F dX0_allOwed_5 0 rfl ?_
  refine hh_get F F.k.1 in_X0 (F.k.c rfl) 0 (hds 0 _ rfl) 1 (by decide) qX0_14 (fun _ h => h) (Nat.le_of_ble_eq_true rfl) (v := .ref (ad 1)) rfl dX0_allOwed_6 ?_
  refine hh_get F F.k.1 in_X2 (F.k.c rfl) 1 (hds 1 _ rfl) 6 (by decide) qX0_144 (u_same (F.ts _ q160)) (Nat.le_of_ble_eq_true rfl) (v := .ref (ad 32)) rfl dX0_allOwed_9 ?_
  refine cl_size F hA hL0 hn0 cwX0_170 (Nat.le_of_ble_eq_true rfl) (Nat.le_refl _) (Nat.le_refl _) (Nat.le_of_ble_eq_true rfl) dX0_allOwed_12 ?_
  refine ro_icmp_geN (tgt := 35) F dX0_allOwed_15 (by decide) (by omega) (by omega) (fun c15 => ?_) (fun c15 => absurd c15 (by omega))
  refine ro_iload_n F dX0_allOwed_35 2 rfl ?_
  exact hret _ _ _ _ _ _ (Nat.le_refl _) (Nat.le_refl _) dX0_allOwed_36 rfl ⟨congrArg (fun z => some (Value.int z)) (rfl), rfl⟩
