/-! the class over the lazy world: generated -/
theorem nn_eq {m m2 : Mem} {a : Nat} (h : m a = m2 a) : nn m a = nn m2 a := by unfold nn; rw [h]
set_option maxHeartbeats 4000000 in
set_option maxRecDepth 100000 in
theorem metX0_in_q (l : Launch) (x : Hx) (M : Bool × Bool) (ad : Nat → Nat) (ds : Nat → Option Lay) (m : Mem) (v : Int64) (least : Int64) (most : Int64)  : Cn l yX0_in (ws_ yX0_in cX0_in 6 (some .boolean)) 1 0 0 [.long v, .long least, .long most] (PicQ x M) (KC x) (hx_A x) (ad, ds, m) (fun rv_ w_ => rv_ = some (.int (b2 (¬ (v < least) ∧ (¬ (most < v))))) ∧ w_ = (ad, ds, m)) := by
  refine cn_i (own := RX0) rfl (Nat.le_of_ble_eq_true rfl) rfl (fun g hgl hA F hret => ?_)
  refine Wd.eql (lv' := [(0, .long v), (2, .long least), (4, .long most)]) rfl ?_
  refine q_wf (fun hwf => ?_)
  obtain ⟨⟨hn0, lb0⟩, ⟨hn1, lb1⟩, ⟨hn2, lb2⟩, ⟨hn3, lb3⟩, ⟨hn4, lb4⟩⟩ := hwf
  refine ro_lload_n F dX0_in_0 0 rfl ?_
  refine ro_lload_n F dX0_in_1 1 rfl ?_
  refine ro_lcmp F dX0_in_2 ?_
  have J18_3 : Wd (PicQ x M) g 6 (ad, ds, m) 0 0 18 [] [.int (b2 (¬ (v < least) ∧ (¬ (most < v))))] := by
    exact hret _ _ _ _ _ _ (by omega) (by omega) dX0_in_18 b2_nar ⟨rfl, rfl⟩
  refine ro_lif_lt (tgt := 17) F dX0_in_3 (by decide) (fun c3 => ?_) (fun c3 => ?_)
  · refine ro_iconst (v := (nI 0)) F dX0_in_17 (by decide) ?_
    exact Wd.sub (lv' := []) [] rfl <| Wd.to J18_3 rfl rfl (congrArg (fun z => ([Value.int z] : List Value)) ((b2_f (by first | (simp [c3]; done) | (intro hh; obtain ⟨h1, h2⟩ := hh; first | exact absurd h1 (by assumption) | exact absurd h2 (by assumption)))).symm))
  · refine ro_lload_n F dX0_in_6 0 rfl ?_
    refine ro_lload F dX0_in_7 2 rfl ?_
    refine ro_lcmp F dX0_in_9 ?_
    refine ro_lif_gt (tgt := 17) F dX0_in_10 (by decide) (fun c10 => ?_) (fun c10 => ?_)
    · refine ro_iconst (v := (nI 0)) F dX0_in_17 (by decide) ?_
      exact Wd.sub (lv' := []) [] rfl <| Wd.to J18_3 rfl rfl (congrArg (fun z => ([Value.int z] : List Value)) ((b2_f (by first | (simp [c3, c10]; done) | (intro hh; obtain ⟨h1, h2⟩ := hh; first | exact absurd h1 (by assumption) | exact absurd h2 (by assumption)))).symm))
    · refine ro_iconst (v := (nI 1)) F dX0_in_13 (by decide) ?_
      refine ro_goto (tgt := 18) F dX0_in_14 (by decide) ?_
      exact Wd.sub (lv' := []) [] rfl <| Wd.to J18_3 rfl rfl (congrArg (fun z => ([Value.int z] : List Value)) ((b2_t (by first | (simp [c3, c10]; done) | (refine ⟨?_, ?_⟩ <;> assumption))).symm))
set_option maxHeartbeats 4000000 in
set_option maxRecDepth 100000 in
theorem metX0_isTwo_q (l : Launch) (x : Hx) (M : Bool × Bool) (ad : Nat → Nat) (ds : Nat → Option Lay) (m : Mem) (v : Int32)  : Cn l yX0_isTwo (ws_ yX0_isTwo cX0_isTwo 1 (some .boolean)) 2 0 0 [.int v] (PicQ x M) (KC x) (hx_A x) (ad, ds, m) (fun rv_ w_ => rv_ = some (.int (b2 (¬ ((v.toInt64) < 0) ∧ (¬ (1 < (v.toInt64)))))) ∧ w_ = (ad, ds, m)) := by
  refine cn_i (own := RX0) rfl (Nat.le_of_ble_eq_true rfl) rfl (fun g hgl hA F hret => ?_)
  refine Wd.eql (lv' := [(0, .int v)]) rfl ?_
  refine q_wf (fun hwf => ?_)
  obtain ⟨⟨hn0, lb0⟩, ⟨hn1, lb1⟩, ⟨hn2, lb2⟩, ⟨hn3, lb3⟩, ⟨hn4, lb4⟩⟩ := hwf
  refine ro_iload_n F dX0_isTwo_0 0 rfl ?_
  refine ro_i2l F dX0_isTwo_1 ?_
  refine ro_lconst (v := 0) F dX0_isTwo_2 (by decide) ?_
  refine ro_lconst (v := 1) F dX0_isTwo_3 (by decide) ?_
  refine hq_cS (rest := []) F hA (metX0_in_q (gx_l g) x M ad ds m (v.toInt64) 0 1 ) cwX0_103 hdX0_in.2 rfl (Nat.le_of_ble_eq_true rfl) (Nat.le_of_ble_eq_true rfl) (by omega) (by omega) rfl (Nat.le_of_ble_eq_true rfl) dX0_isTwo_4 ?_
  exact hret _ _ _ _ _ _ (by omega) (by omega) dX0_isTwo_7 b2_nar ⟨rfl, rfl⟩
set_option maxHeartbeats 4000000 in
set_option maxRecDepth 100000 in
theorem metX0_isDay_q (l : Launch) (x : Hx) (M : Bool × Bool) (ad : Nat → Nat) (ds : Nat → Option Lay) (m : Mem) (v : Int32)  : Cn l yX0_isDay (ws_ yX0_isDay cX0_isDay 1 (some .boolean)) 2 0 0 [.int v] (PicQ x M) (KC x) (hx_A x) (ad, ds, m) (fun rv_ w_ => rv_ = some (.int (b2 (¬ ((v.toInt64) < 0) ∧ (¬ ((19) < (v.toInt64)))))) ∧ w_ = (ad, ds, m)) := by
  refine cn_i (own := RX0) rfl (Nat.le_of_ble_eq_true rfl) rfl (fun g hgl hA F hret => ?_)
  refine Wd.eql (lv' := [(0, .int v)]) rfl ?_
  refine q_wf (fun hwf => ?_)
  obtain ⟨⟨hn0, lb0⟩, ⟨hn1, lb1⟩, ⟨hn2, lb2⟩, ⟨hn3, lb3⟩, ⟨hn4, lb4⟩⟩ := hwf
  refine ro_iload_n F dX0_isDay_0 0 rfl ?_
  refine ro_i2l F dX0_isDay_1 ?_
  refine ro_lconst (v := 0) F dX0_isDay_2 (by decide) ?_
  refine ro_ldc2 F q725 dX0_isDay_3 ?_
  refine hq_cS (rest := []) F hA (metX0_in_q (gx_l g) x M ad ds m (v.toInt64) 0 (19) ) cwX0_103 hdX0_in.2 rfl (Nat.le_of_ble_eq_true rfl) (Nat.le_of_ble_eq_true rfl) (by omega) (by omega) rfl (Nat.le_of_ble_eq_true rfl) dX0_isDay_6 ?_
  exact hret _ _ _ _ _ _ (by omega) (by omega) dX0_isDay_9 b2_nar ⟨rfl, rfl⟩
set_option maxHeartbeats 4000000 in
set_option maxRecDepth 100000 in
theorem metX0_isSheet_q (l : Launch) (x : Hx) (M : Bool × Bool) (ad : Nat → Nat) (ds : Nat → Option Lay) (m : Mem) (v : Int32)  : Cn l yX0_isSheet (ws_ yX0_isSheet cX0_isSheet 1 (some .boolean)) 2 0 0 [.int v] (PicQ x M) (KC x) (hx_A x) (ad, ds, m) (fun rv_ w_ => rv_ = some (.int (b2 (¬ ((v.toInt64) < 0) ∧ (¬ ((3) < (v.toInt64)))))) ∧ w_ = (ad, ds, m)) := by
  refine cn_i (own := RX0) rfl (Nat.le_of_ble_eq_true rfl) rfl (fun g hgl hA F hret => ?_)
  refine Wd.eql (lv' := [(0, .int v)]) rfl ?_
  refine q_wf (fun hwf => ?_)
  obtain ⟨⟨hn0, lb0⟩, ⟨hn1, lb1⟩, ⟨hn2, lb2⟩, ⟨hn3, lb3⟩, ⟨hn4, lb4⟩⟩ := hwf
  refine ro_iload_n F dX0_isSheet_0 0 rfl ?_
  refine ro_i2l F dX0_isSheet_1 ?_
  refine ro_lconst (v := 0) F dX0_isSheet_2 (by decide) ?_
  refine ro_ldc2 F q757 dX0_isSheet_3 ?_
  refine hq_cS (rest := []) F hA (metX0_in_q (gx_l g) x M ad ds m (v.toInt64) 0 (3) ) cwX0_103 hdX0_in.2 rfl (Nat.le_of_ble_eq_true rfl) (Nat.le_of_ble_eq_true rfl) (by omega) (by omega) rfl (Nat.le_of_ble_eq_true rfl) dX0_isSheet_6 ?_
  exact hret _ _ _ _ _ _ (by omega) (by omega) dX0_isSheet_9 b2_nar ⟨rfl, rfl⟩
set_option maxHeartbeats 4000000 in
set_option maxRecDepth 100000 in
theorem metX0_isIn_q (l : Launch) (x : Hx) (M : Bool × Bool) (ad : Nat → Nat) (ds : Nat → Option Lay) (m : Mem) (bits : Int32) (k : Int32)  : Cn l yX0_isIn (ws_ yX0_isIn cX0_isIn 2 (some .boolean)) 1 0 0 [.int bits, .int k] (PicQ x M) (KC x) (hx_A x) (ad, ds, m) (fun rv_ w_ => rv_ = some (.int (b2 (((bits >>> (k &&& 31)) &&& (nI 1)) = (nI 1)))) ∧ w_ = (ad, ds, m)) := by
  refine cn_i (own := RX0) rfl (Nat.le_of_ble_eq_true rfl) rfl (fun g hgl hA F hret => ?_)
  refine Wd.eql (lv' := [(0, .int bits), (1, .int k)]) rfl ?_
  refine q_wf (fun hwf => ?_)
  obtain ⟨⟨hn0, lb0⟩, ⟨hn1, lb1⟩, ⟨hn2, lb2⟩, ⟨hn3, lb3⟩, ⟨hn4, lb4⟩⟩ := hwf
  refine ro_iload_n F dX0_isIn_0 0 rfl ?_
  refine ro_iload_n F dX0_isIn_1 1 rfl ?_
  refine ro_ishr F dX0_isIn_2 ?_
  refine ro_iconst (v := (nI 1)) F dX0_isIn_3 (by decide) ?_
  refine ro_iand F dX0_isIn_4 ?_
  refine ro_iconst (v := (nI 1)) F dX0_isIn_5 (by decide) ?_
  have J14_6 : Wd (PicQ x M) g 2 (ad, ds, m) 0 0 14 [] [.int (b2 (((bits >>> (k &&& 31)) &&& (nI 1)) = (nI 1)))] := by
    exact hret _ _ _ _ _ _ (by omega) (by omega) dX0_isIn_14 b2_nar ⟨rfl, rfl⟩
  refine ro_icmp_ne (tgt := 13) F dX0_isIn_6 (by decide) (fun c6 => ?_) (fun c6 => ?_)
  · refine ro_iconst (v := (nI 0)) F dX0_isIn_13 (by decide) ?_
    exact Wd.sub (lv' := []) [] rfl <| Wd.to J14_6 rfl rfl (congrArg (fun z => ([Value.int z] : List Value)) ((b2_f (by first | (simp [c6]; done) | (intro hh; obtain ⟨h1, h2⟩ := hh; first | exact absurd h1 (by assumption) | exact absurd h2 (by assumption)))).symm))
  · refine ro_iconst (v := (nI 1)) F dX0_isIn_9 (by decide) ?_
    refine ro_goto (tgt := 14) F dX0_isIn_10 (by decide) ?_
    exact Wd.sub (lv' := []) [] rfl <| Wd.to J14_6 rfl rfl (congrArg (fun z => ([Value.int z] : List Value)) ((b2_t (by first | (simp [c6]; done) | (refine ⟨?_, ?_⟩ <;> assumption))).symm))
set_option maxHeartbeats 4000000 in
set_option maxRecDepth 100000 in
theorem metX0_no_q (l : Launch) (x : Hx) (M : Bool × Bool) (ad : Nat → Nat) (ds : Nat → Option Lay) (m : Mem) (r : Int32)  : Cn l yX0_no (ws_ yX0_no cX0_no 1 (some .long)) 1 0 0 [.int r] (PicQ x M) (KC x) (hx_A x) (ad, ds, m) (fun rv_ w_ => rv_ = some (.long ((-9223372036854775808) - (r.toInt64))) ∧ w_ = (ad, ds, m)) := by
  refine cn_l (own := RX0) rfl (Nat.le_of_ble_eq_true rfl) rfl (fun g hgl hA F hret => ?_)
  refine Wd.eql (lv' := [(0, .int r)]) rfl ?_
  refine q_wf (fun hwf => ?_)
  obtain ⟨⟨hn0, lb0⟩, ⟨hn1, lb1⟩, ⟨hn2, lb2⟩, ⟨hn3, lb3⟩, ⟨hn4, lb4⟩⟩ := hwf
  refine ro_ldc2 F q992 dX0_no_0 ?_
  refine ro_iload_n F dX0_no_3 0 rfl ?_
  refine ro_i2l F dX0_no_4 ?_
  refine ro_lsub F dX0_no_5 ?_
  exact hret _ _ _ _ _ _ (by omega) (by omega) dX0_no_6 ⟨rfl, rfl⟩
noncomputable def rX0_heardBy_q (d : Nat) (k : Nat) (what : Int32) (m : Mem) : Int32 := (if what = 0 then (m (7 + 64 * (d + 1)) k) else (m (8 + 64 * (d + 1)) k))
set_option maxHeartbeats 4000000 in
set_option maxRecDepth 100000 in
theorem metX0_heardBy_q (l : Launch) (x : Hx) (M : Bool × Bool) (ad : Nat → Nat) (ds : Nat → Option Lay) (m : Mem) (d : Nat) (k : Nat) (what : Int32) (hd : d < 20) (hk : k < 8) : Cn l yX0_heardBy (ws_ yX0_heardBy cX0_heardBy 4 (some .int)) 2 0 0 [.ref (ad 0), .int (nI d), .int (nI k), .int what] (PicQ x M) (KC x) (hx_A x) (ad, ds, m) (fun rv_ w_ => rv_ = some (.int (rX0_heardBy_q d k what m)) ∧ w_ = (ad, ds, m)) := by
  refine cn_i (own := RX0) rfl (Nat.le_of_ble_eq_true rfl) rfl (fun g hgl hA F hret => ?_)
  refine Wd.eql (lv' := [(0, .ref (ad 0)), (1, .int (nI d)), (2, .int (nI k)), (3, .int what)]) rfl ?_
  refine q_wf (fun hwf => ?_)
  obtain ⟨⟨hn0, lb0⟩, ⟨hn1, lb1⟩, ⟨hn2, lb2⟩, ⟨hn3, lb3⟩, ⟨hn4, lb4⟩⟩ := hwf
  refine ro_iload_n F dX0_heardBy_0 3 rfl ?_
  have J23_1 : Wd (PicQ x M) g 4 (ad, ds, m) 0 0 23 [] [.int (if what = 0 then (m (7 + 64 * (d + 1)) k) else (m (8 + 64 * (d + 1)) k))] := by
    exact hret _ _ _ _ _ _ (by omega) (by omega) dX0_heardBy_23 rfl ⟨congrArg (fun z => some (Value.int z)) (rfl), rfl⟩
  refine ro_if_ne (tgt := 15) F dX0_heardBy_1 (by decide) (fun c1 => ?_) (fun c1 => ?_)
  · refine ro_aload_n F dX0_heardBy_15 0 rfl ?_
    refine hq_getR F in_X0 (ci := 0) rfl 0 8 rfl (nhd (by decide)) (nhd (by decide)) 8 (by decide) qX0_49 (fun _ h => h) (Nat.le_of_ble_eq_true rfl) rfl dX0_heardBy_16 ?_
    refine ro_iload_n F dX0_heardBy_19 1 rfl ?_
    refine hq_ldAg F 8 20 rfl (by decide) (by decide) (by omega) dX0_heardBy_20 ?_
    refine ro_iload_n F dX0_heardBy_21 2 rfl ?_
    refine hq_ldG F (8 + 64 * (d + 1)) 8 (fix_8 (by omega)) (by omega) (by decide) (by omega) dX0_heardBy_22 rfl ?_
    exact Wd.sub (lv' := []) [] rfl <| Wd.to J23_1 rfl rfl (congrArg (fun z => ([Value.int z] : List Value)) (by simp only [if_neg c1]))
  · refine ro_aload_n F dX0_heardBy_4 0 rfl ?_
    refine hq_getR F in_X0 (ci := 0) rfl 0 7 rfl (nhd (by decide)) (nhd (by decide)) 7 (by decide) qX0_46 (fun _ h => h) (Nat.le_of_ble_eq_true rfl) rfl dX0_heardBy_5 ?_
    refine ro_iload_n F dX0_heardBy_8 1 rfl ?_
    refine hq_ldAg F 7 20 rfl (by decide) (by decide) (by omega) dX0_heardBy_9 ?_
    refine ro_iload_n F dX0_heardBy_10 2 rfl ?_
    refine hq_ldG F (7 + 64 * (d + 1)) 8 (fix_7 (by omega)) (by omega) (by decide) (by omega) dX0_heardBy_11 rfl ?_
    refine ro_goto (tgt := 23) F dX0_heardBy_12 (by decide) ?_
    exact Wd.sub (lv' := []) [] rfl <| Wd.to J23_1 rfl rfl (congrArg (fun z => ([Value.int z] : List Value)) (by simp only [if_pos c1]))
noncomputable def lX0_heardInAll_q_4 (k : Nat) (m : Mem) (i4 : Nat) (b4 : Int32) : Int32 := (b4 + (m (7 + 64 * (i4 + 1)) k))
noncomputable def rX0_heardInAll_q (k : Nat) (m : Mem) : Int32 := (it (lX0_heardInAll_q_4 k m) (nI 0) 20)
set_option maxHeartbeats 4000000 in
set_option maxRecDepth 100000 in
theorem metX0_heardInAll_q (l : Launch) (x : Hx) (M : Bool × Bool) (ad : Nat → Nat) (ds : Nat → Option Lay) (m : Mem) (k : Nat) (hk : k < 8) : Cn l yX0_heardInAll (ws_ yX0_heardInAll cX0_heardInAll 4 (some .int)) 2 0 0 [.ref (ad 0), .int (nI k)] (PicQ x M) (KC x) (hx_A x) (ad, ds, m) (fun rv_ w_ => rv_ = some (.int (rX0_heardInAll_q k m)) ∧ w_ = (ad, ds, m)) := by
  refine cn_i (own := RX0) rfl (Nat.le_of_ble_eq_true rfl) rfl (fun g hgl hA F hret => ?_)
  refine Wd.eql (lv' := [(0, .ref (ad 0)), (1, .int (nI k))]) rfl ?_
  refine q_wf (fun hwf => ?_)
  obtain ⟨⟨hn0, lb0⟩, ⟨hn1, lb1⟩, ⟨hn2, lb2⟩, ⟨hn3, lb3⟩, ⟨hn4, lb4⟩⟩ := hwf
  refine ro_iconst (v := (nI 0)) F dX0_heardInAll_0 (by decide) ?_
  refine ro_istore_n (lv' := [(0, .ref (ad 0)), (1, .int (nI k)), (2, .int (nI 0))]) F dX0_heardInAll_1 (Nat.le_of_ble_eq_true rfl) [1, 2, 0] rfl ?_
  refine ro_iconst (v := (nI 0)) F dX0_heardInAll_2 (by decide) ?_
  refine ro_istore_n (lv' := [(0, .ref (ad 0)), (1, .int (nI k)), (2, .int (nI 0)), (3, .int (nI 0))]) F dX0_heardInAll_3 (Nat.le_of_ble_eq_true rfl) [1, 2, 3, 0] rfl ?_
  refine it_loop 20 (lX0_heardInAll_q_4 k m) (nI 0) (fun _ _ => True) (fun (i4 : Nat) (b4 : Int32) => Wd (PicQ x M) g 4 (ad, ds, m) 0 0 4 [(0, .ref (ad 0)), (1, .int (nI k)), (2, .int b4), (3, .int (nI i4))] []) trivial (fun _ _ _ _ => trivial) (fun i4 b4 hi4 hf4 ih4 => ?_) (fun b4 hf4 he4 => ?_)
  · refine ro_iload_n F dX0_heardInAll_4 3 rfl ?_
    refine ro_bipush (v := (nI 20)) F dX0_heardInAll_5 (by decide) ?_
    refine ro_icmp_geN (tgt := 27) F dX0_heardInAll_7 (by decide) (by omega) (by omega) (fun c7 => absurd c7 (by omega)) (fun c7 => ?_)
    refine ro_iload_n F dX0_heardInAll_10 2 rfl ?_
    refine ro_aload_n F dX0_heardInAll_11 0 rfl ?_
    refine hq_getR F in_X0 (ci := 0) rfl 0 7 rfl (nhd (by decide)) (nhd (by decide)) 7 (by decide) qX0_46 (fun _ h => h) (Nat.le_of_ble_eq_true rfl) rfl dX0_heardInAll_12 ?_
    refine ro_iload_n F dX0_heardInAll_15 3 rfl ?_
    refine hq_ldAg F 7 20 rfl (by decide) (by decide) (by omega) dX0_heardInAll_16 ?_
    refine ro_iload_n F dX0_heardInAll_17 1 rfl ?_
    refine hq_ldG F (7 + 64 * (i4 + 1)) 8 (fix_7 (by omega)) (by omega) (by decide) (by omega) dX0_heardInAll_18 rfl ?_
    refine ro_iadd F dX0_heardInAll_19 ?_
    refine ro_istore_n (lv' := [(0, .ref (ad 0)), (1, .int (nI k)), (2, .int (b4 + (m (7 + 64 * (i4 + 1)) k))), (3, .int (nI i4))]) F dX0_heardInAll_20 (Nat.le_of_ble_eq_true rfl) [1, 2, 0, 3] rfl ?_
    refine ro_iincN (z := 1) (lv' := [(0, .ref (ad 0)), (1, .int (nI k)), (2, .int (b4 + (m (7 + 64 * (i4 + 1)) k))), (3, .int (nI (i4 + 1)))]) F dX0_heardInAll_21 3 rfl (Nat.le_of_ble_eq_true rfl) [1, 2, 3, 0] rfl ?_
    refine ro_goto (tgt := 4) F dX0_heardInAll_24 (by decide) ?_
    exact ih4
  subst he4
  refine ro_iload_n F dX0_heardInAll_4 3 rfl ?_
  refine ro_bipush (v := (nI 20)) F dX0_heardInAll_5 (by decide) ?_
  refine ro_icmp_geN (tgt := 27) F dX0_heardInAll_7 (by decide) (by omega) (by omega) (fun c7 => ?_) (fun c7 => absurd c7 (by omega))
  refine ro_iload_n F dX0_heardInAll_27 2 rfl ?_
  exact hret _ _ _ _ _ _ (by omega) (by omega) dX0_heardInAll_28 rfl ⟨congrArg (fun z => some (Value.int z)) (rfl), rfl⟩
