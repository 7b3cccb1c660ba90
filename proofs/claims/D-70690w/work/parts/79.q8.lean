/-! the class over the lazy world: generated -/
noncomputable def lX0_drawOf_q_15 (k : Nat) (i15 : Nat) (b15 : Mem × Int32 × Int32) : Mem × Int32 × Int32 := ((m2 (fQ_find b15.1) 0 15 (nI (i15 + 1))), (if b15.2.2 < (rX0_heardInAll_q k (fQ_find b15.1)) then (nI i15) else b15.2.1), (if b15.2.2 < (rX0_heardInAll_q k (fQ_find b15.1)) then (rX0_heardInAll_q k (fQ_find b15.1)) else b15.2.2))
theorem fr_lX0_drawOf_q_15 (k : Nat) (i15 : Nat) (b15 : Mem × Int32 × Int32) (f : Nat) (h0 : f % 64 ≠ 0) (h1 : f % 64 ≠ 1) (h2 : f % 64 ≠ 2) (h6 : f % 64 ≠ 6) (h7 : f % 64 ≠ 7) (h8 : f % 64 ≠ 8) (h9 : f % 64 ≠ 9) (h11 : f % 64 ≠ 11) : (lX0_drawOf_q_15 k i15 b15).1 f = b15.1 f := (m2_ff _ _ (by omega)).trans ((fr_fQ_find  b15.1 f h0 h1 h2 h6 h7 h8 h9 h11).trans (rfl))
theorem fi_lX0_drawOf_q_15 (k : Nat) (b15 : Mem × Int32 × Int32) (n_ : Nat) (f : Nat) (h0 : f % 64 ≠ 0) (h1 : f % 64 ≠ 1) (h2 : f % 64 ≠ 2) (h6 : f % 64 ≠ 6) (h7 : f % 64 ≠ 7) (h8 : f % 64 ≠ 8) (h9 : f % 64 ≠ 9) (h11 : f % 64 ≠ 11) : (it (lX0_drawOf_q_15 k) b15 n_).1 f = b15.1 f := it_fr1 (fun i_ b_ => fr_lX0_drawOf_q_15 k i_ b_ f h0 h1 h2 h6 h7 h8 h9 h11) n_
theorem fql_lX0_drawOf_q_15 (k : Nat) (i15 : Nat) (b15 : Mem × Int32 × Int32) (h_ : FrQ b15.1) : FrQ (lX0_drawOf_q_15 k i15 b15).1 := (frq_m2 (fQ_fr _) (by omega) (by omega))
theorem fqi_lX0_drawOf_q_15 (k : Nat) (b15 : Mem × Int32 × Int32) (n_ : Nat) (h_ : FrQ b15.1) : FrQ (it (lX0_drawOf_q_15 k) b15 n_).1 := it_inv (P := fun b_ => FrQ b_.1) h_ (fun i_ b_ hb_ => fql_lX0_drawOf_q_15 k i_ b_ hb_) n_
noncomputable def rX0_drawOf_q (k : Nat) (what : Int32) (m : Mem) : Int32 := (if what = 0 then (it (lX0_drawOf_q_15 k) ((m2 (m2 m 0 14 (nI k)) 0 15 (nI 0)), (-1), (-1)) 20).2.1 else (it (lX0_drawOf_q_15 k) ((m2 (m2 m 0 14 (nI k)) 0 15 (nI 0)), (-1), (-1)) 20).2.2)
noncomputable def fX0_drawOf_q (k : Nat) (m : Mem) : Mem := (m2 (it (lX0_drawOf_q_15 k) ((m2 (m2 m 0 14 (nI k)) 0 15 (nI 0)), (-1), (-1)) 20).1 0 14 (-1))
theorem fr_fX0_drawOf_q (k : Nat) (m : Mem) (f : Nat) (h0 : f % 64 ≠ 0) (h1 : f % 64 ≠ 1) (h2 : f % 64 ≠ 2) (h6 : f % 64 ≠ 6) (h7 : f % 64 ≠ 7) (h8 : f % 64 ≠ 8) (h9 : f % 64 ≠ 9) (h11 : f % 64 ≠ 11) : fX0_drawOf_q k m f = m f := (m2_ff _ _ (by omega)).trans ((show (it (lX0_drawOf_q_15 k) ((m2 (m2 m 0 14 (nI k)) 0 15 (nI 0)), (-1), (-1)) 20).1 f = (m2 (m2 m 0 14 (nI k)) 0 15 (nI 0)) f from fi_lX0_drawOf_q_15 k ((m2 (m2 m 0 14 (nI k)) 0 15 (nI 0)), (-1), (-1)) 20 f h0 h1 h2 h6 h7 h8 h9 h11).trans ((m2_ff _ _ (by omega)).trans ((m2_ff _ _ (by omega)).trans (rfl))))
theorem fq_fX0_drawOf_q (k : Nat) (m : Mem) (h_ : FrQ m) : FrQ (fX0_drawOf_q k m) := (frq_m2 (show FrQ ((it (lX0_drawOf_q_15 k) ((m2 (m2 m 0 14 (nI k)) 0 15 (nI 0)), (-1), (-1)) 20).1) from fqi_lX0_drawOf_q_15 k ((m2 (m2 m 0 14 (nI k)) 0 15 (nI 0)), (-1), (-1)) _ (frq_m2 (frq_m2 h_ (by omega) (by omega)) (by omega) (by omega))) (by omega) (by omega))
set_option maxHeartbeats 4000000 in
set_option maxRecDepth 100000 in
theorem metX0_drawOf_q (l : Launch) (x : Hx) (M : Bool × Bool) (ad : Nat → Nat) (ds : Nat → Option Lay) (m : Mem) (c e : Nat) (k : Nat) (what : Int32) (hc : FrQ m ∨ (18 ≤ c ∧ 114 ≤ e)) (hk : k < 8) : Cn l yX0_drawOf (wsW_ yX0_drawOf cX0_drawOf 7 (some .int) [(5, 67, 75, 0), (75, 77, 75, 0)]) 16 (20 * (c + c)) (20 * (e + e)) [.ref (ad 0), .int (nI k), .int what] (PicQ x M) (KC x) (hx_A x) (ad, ds, m) (fun rv_ w_ => rv_ = some (.int (rX0_drawOf_q k what m)) ∧ w_ = (ad, ds, (fX0_drawOf_q k m))) := by
  refine cnw_i (own := RX0) rfl (Nat.le_of_ble_eq_true rfl) rfl (fun g hgl hA F hret => ?_)
  refine Wd.eql (lv' := [(0, .ref (ad 0)), (1, .int (nI k)), (2, .int what)]) rfl ?_
  refine q_wf (fun hwf => ?_)
  obtain ⟨⟨hn0, lb0⟩, ⟨hn1, lb1⟩, ⟨hn2, lb2⟩, ⟨hn3, lb3⟩, ⟨hn4, lb4⟩⟩ := hwf
  refine ro_iconst (v := (-1)) F dX0_drawOf_0 (by decide) ?_
  refine ro_istore_n (lv' := [(0, .ref (ad 0)), (1, .int (nI k)), (2, .int what), (3, .int (-1))]) F dX0_drawOf_1 (Nat.le_of_ble_eq_true rfl) [1, 2, 3, 0] rfl ?_
  refine ro_iconst (v := (-1)) F dX0_drawOf_2 (by decide) ?_
  refine ro_istore (lv' := [(0, .ref (ad 0)), (1, .int (nI k)), (2, .int what), (3, .int (-1)), (4, .int (-1))]) F dX0_drawOf_3 (Nat.le_of_ble_eq_true rfl) [1, 2, 3, 4, 0] rfl ?_
  refine ro_aload_n F dX0_drawOf_5 0 rfl ?_
  refine ro_iload_n F dX0_drawOf_6 1 rfl ?_
  refine hq_put F hA in_X0 tyX0 tyX0_ok nmX0 (ci := 0) rfl 0 rfl (by decide) ⟨by decide, by decide, by decide, by decide, by decide, by decide, by decide, by decide, by decide⟩ 14 (by decide) qX0_58 (fun _ h => h) (Nat.le_of_ble_eq_true rfl) rfl rfl rfl rfl dX0_drawOf_7 ?_
  refine ro_aload_n F dX0_drawOf_10 0 rfl ?_
  refine ro_iconst (v := (nI 0)) F dX0_drawOf_11 (by decide) ?_
  refine hq_put F hA in_X0 tyX0 tyX0_ok nmX0 (ci := 0) rfl 0 rfl (by decide) ⟨by decide, by decide, by decide, by decide, by decide, by decide, by decide, by decide, by decide⟩ 15 (by decide) qX0_212 (fun _ h => h) (Nat.le_of_ble_eq_true rfl) rfl rfl rfl rfl dX0_drawOf_12 ?_
  refine Wd.kn (k' := 0 + 0 * (c + c)) (n' := 0 + 0 * (e + e)) (by rw [Nat.zero_mul, Nat.add_zero]) (by rw [Nat.zero_mul, Nat.add_zero]) ?_
  refine it_loop 20 (lX0_drawOf_q_15 k) ((m2 (m2 m 0 14 (nI k)) 0 15 (nI 0)), (-1), (-1)) (fun (i15 : Nat) (b15 : Mem × Int32 × Int32) => (∀ f : Nat, f % 64 ≠ 0 → f % 64 ≠ 1 → f % 64 ≠ 2 → f % 64 ≠ 6 → f % 64 ≠ 7 → f % 64 ≠ 8 → f % 64 ≠ 9 → f % 64 ≠ 11 → b15.1 f = (m2 (m2 m 0 14 (nI k)) 0 15 (nI 0)) f) ∧ (b15.1 0 15 = nI i15 ∧ (FrQ b15.1 ∨ (18 ≤ c ∧ 114 ≤ e)))) (fun (i15 : Nat) (b15 : Mem × Int32 × Int32) => Wd (PicQ x M) g 7 (ad, ds, b15.1) (0 + i15 * (c + c)) (0 + i15 * (e + e)) 15 [(0, .ref (ad 0)), (1, .int (nI k)), (2, .int what), (3, .int b15.2.1), (4, .int b15.2.2)] []) ⟨(fun f _ _ _ _ _ _ _ _ => rfl), ⟨show m2 (m2 m 0 14 (nI k)) 0 15 (nI 0) 0 15 = nI 0 from m2_self _ _ _ _, (show FrQ (m2 (m2 m 0 14 (nI k)) 0 15 (nI 0)) ∨ _ from hc.imp (fun z => frq_m2 (frq_m2 z (by decide) (by decide)) (by decide) (by decide)) id)⟩⟩ (fun i15 b15 hlt hb => ⟨fun f h0 h1 h2 h6 h7 h8 h9 h11 => (fr_lX0_drawOf_q_15 k i15 b15 f h0 h1 h2 h6 h7 h8 h9 h11).trans (hb.1 f h0 h1 h2 h6 h7 h8 h9 h11), (by unfold lX0_drawOf_q_15; dsimp only; exact ⟨m2_self _ _ _ _, Or.inl (frq_m2 (fQ_fr _) (by decide) (by decide))⟩)⟩) (fun i15 b15 hi15 hf15 ih15 => ?_) (fun b15 hf15 he15 => ?_)
  · obtain ⟨hf15, hx15⟩ := hf15
    dsimp only [lX0_drawOf_q_15] at ih15
    have hml := ml1 (c + c) (show i15 + 1 ≤ 20 by omega)
    have hnl := ml1 (e + e) (show i15 + 1 ≤ 20 by omega)
    refine ro_aload_n F dX0_drawOf_15 0 rfl ?_
    refine hq_get F in_X0 (ci := 0) rfl 0 rfl (by decide) 15 (by decide) (by decide) qX0_212 (fun _ h => h) (Nat.le_of_ble_eq_true rfl) rfl hx15.1 dX0_drawOf_16 ?_
    refine ro_bipush (v := (nI 20)) F dX0_drawOf_19 (by decide) ?_
    refine ro_icmp_geN (tgt := 67) F dX0_drawOf_21 (by decide) (by omega) (by omega) (fun c21 => absurd c21 (by omega)) (fun c21 => ?_)
    refine ro_aload_n F dX0_drawOf_24 0 rfl ?_
    refine hq_cV (rest := []) F hA (metX0_find_q (gx_l g) x M ad ds b15.1 c e (hx15.2.imp (fun z => z) id)) cwX0_276 hdX0_find rfl (Nat.le_of_ble_eq_true rfl) (Nat.le_of_ble_eq_true rfl) (by omega) (by omega) rfl (Nat.le_of_ble_eq_true rfl) dX0_drawOf_25 ?_
    refine ro_aload_n F dX0_drawOf_28 0 rfl ?_
    refine ro_iload_n F dX0_drawOf_29 1 rfl ?_
    refine hq_cV (c' := 0) (e' := 0) (rest := []) F hA (metX0_heardInAll_q (gx_l g) x M ad ds (fQ_find b15.1) k (by omega)) cwX0_283 hdX0_heardInAll rfl (Nat.le_of_ble_eq_true rfl) (Nat.le_of_ble_eq_true rfl) (by omega) (by omega) rfl (Nat.le_of_ble_eq_true rfl) dX0_drawOf_30 ?_
    refine ro_istore (lv' := [(0, .ref (ad 0)), (1, .int (nI k)), (2, .int what), (3, .int b15.2.1), (4, .int b15.2.2), (5, .int (rX0_heardInAll_q k (fQ_find b15.1)))]) F dX0_drawOf_33 (Nat.le_of_ble_eq_true rfl) [1, 2, 3, 4, 5, 0] rfl ?_
    refine ro_iload F dX0_drawOf_35 5 rfl ?_
    refine ro_iload F dX0_drawOf_37 4 rfl ?_
    have J54_39 : Wd (PicQ x M) g 7 (ad, ds, (fQ_find b15.1)) ((0 + i15 * (c + c)) + (c + c)) ((0 + i15 * (e + e)) + (e + e)) 54 [(0, .ref (ad 0)), (1, .int (nI k)), (2, .int what), (3, .int (if b15.2.2 < (rX0_heardInAll_q k (fQ_find b15.1)) then (nI i15) else b15.2.1)), (4, .int (if b15.2.2 < (rX0_heardInAll_q k (fQ_find b15.1)) then (rX0_heardInAll_q k (fQ_find b15.1)) else b15.2.2))] [] := by
      refine ro_aload_n F dX0_drawOf_54 0 rfl ?_
      refine ro_dup F dX0_drawOf_55 rfl ?_
      refine hq_get F in_X0 (ci := 0) rfl 0 rfl (by decide) 15 (by decide) (by decide) qX0_212 (fun _ h => h) (Nat.le_of_ble_eq_true rfl) rfl ((fQ_0 _ (by decide)).trans (hx15.1)) dX0_drawOf_56 ?_
      refine ro_iconst (v := (nI 1)) F dX0_drawOf_59 (by decide) ?_
      refine ro_iaddN F dX0_drawOf_60 ?_
      refine hq_put F hA in_X0 tyX0 tyX0_ok nmX0 (ci := 0) rfl 0 rfl (by decide) ⟨by decide, by decide, by decide, by decide, by decide, by decide, by decide, by decide, by decide⟩ 15 (by decide) qX0_212 (fun _ h => h) (Nat.le_of_ble_eq_true rfl) rfl rfl rfl rfl dX0_drawOf_61 ?_
      refine ro_goto (tgt := 15) F dX0_drawOf_64 (by decide) ?_
      exact Wd.kn (k' := 0 + (i15 + 1) * (c + c)) (n' := 0 + (i15 + 1) * (e + e)) (by rw [Nat.add_one_mul]; omega) (by rw [Nat.add_one_mul]; omega) <| Wd.to ih15 rfl rfl rfl
    refine ro_icmp_gt (tgt := 45) F dX0_drawOf_39 (by decide) (fun c39 => ?_) (fun c39 => ?_)
    · refine ro_aload_n F dX0_drawOf_45 0 rfl ?_
      refine hq_get F in_X0 (ci := 0) rfl 0 rfl (by decide) 15 (by decide) (by decide) qX0_212 (fun _ h => h) (Nat.le_of_ble_eq_true rfl) rfl ((fQ_0 _ (by decide)).trans (hx15.1)) dX0_drawOf_46 ?_
      refine ro_istore_n (lv' := [(0, .ref (ad 0)), (1, .int (nI k)), (2, .int what), (3, .int (nI i15)), (4, .int b15.2.2), (5, .int (rX0_heardInAll_q k (fQ_find b15.1)))]) F dX0_drawOf_49 (Nat.le_of_ble_eq_true rfl) [1, 2, 3, 0, 4, 5] rfl ?_
      refine ro_iload F dX0_drawOf_50 5 rfl ?_
      refine ro_istore (lv' := [(0, .ref (ad 0)), (1, .int (nI k)), (2, .int what), (3, .int (nI i15)), (4, .int (rX0_heardInAll_q k (fQ_find b15.1))), (5, .int (rX0_heardInAll_q k (fQ_find b15.1)))]) F dX0_drawOf_52 (Nat.le_of_ble_eq_true rfl) [1, 2, 3, 4, 0, 5] rfl ?_
      exact Wd.sub (lv' := [(0, .ref (ad 0)), (1, .int (nI k)), (2, .int what), (3, .int (nI i15)), (4, .int (rX0_heardInAll_q k (fQ_find b15.1)))]) [0, 1, 2, 3, 4] rfl <| Wd.to J54_39 rfl ((congrArg (fun z => ([(0, .ref (ad 0)), (1, .int (nI k)), (2, .int what), (3, Value.int z), (4, .int (rX0_heardInAll_q k (fQ_find b15.1)))] : Lv)) (by simp only [if_pos c39])).trans (congrArg (fun z => ([(0, .ref (ad 0)), (1, .int (nI k)), (2, .int what), (3, .int (if b15.2.2 < (rX0_heardInAll_q k (fQ_find b15.1)) then (nI i15) else b15.2.1)), (4, Value.int z)] : Lv)) (by simp only [if_pos c39]))) rfl
    · refine ro_goto (tgt := 54) F dX0_drawOf_42 (by decide) ?_
      exact Wd.sub (lv' := [(0, .ref (ad 0)), (1, .int (nI k)), (2, .int what), (3, .int b15.2.1), (4, .int b15.2.2)]) [0, 1, 2, 3, 4] rfl <| Wd.to J54_39 rfl ((congrArg (fun z => ([(0, .ref (ad 0)), (1, .int (nI k)), (2, .int what), (3, Value.int z), (4, .int b15.2.2)] : Lv)) (by simp only [if_neg c39])).trans (congrArg (fun z => ([(0, .ref (ad 0)), (1, .int (nI k)), (2, .int what), (3, .int (if b15.2.2 < (rX0_heardInAll_q k (fQ_find b15.1)) then (nI i15) else b15.2.1)), (4, Value.int z)] : Lv)) (by simp only [if_neg c39]))) rfl
  subst he15
  obtain ⟨hf15, hx15⟩ := hf15
  refine ro_aload_n F dX0_drawOf_15 0 rfl ?_
  refine hq_get F in_X0 (ci := 0) rfl 0 rfl (by decide) 15 (by decide) (by decide) qX0_212 (fun _ h => h) (Nat.le_of_ble_eq_true rfl) rfl hx15.1 dX0_drawOf_16 ?_
  refine ro_bipush (v := (nI 20)) F dX0_drawOf_19 (by decide) ?_
  refine ro_icmp_geN (tgt := 67) F dX0_drawOf_21 (by decide) (by omega) (by omega) (fun c21 => ?_) (fun c21 => absurd c21 (by omega))
  refine ro_aload_n F dX0_drawOf_67 0 rfl ?_
  refine ro_iconst (v := (-1)) F dX0_drawOf_68 (by decide) ?_
  refine hq_put F hA in_X0 tyX0 tyX0_ok nmX0 (ci := 0) rfl 0 rfl (by decide) ⟨by decide, by decide, by decide, by decide, by decide, by decide, by decide, by decide, by decide⟩ 14 (by decide) qX0_58 (fun _ h => h) (Nat.le_of_ble_eq_true rfl) rfl rfl rfl rfl dX0_drawOf_69 ?_
  refine ro_goto (tgt := 85) F dX0_drawOf_72 (by decide) ?_
  refine ro_iload_n F dX0_drawOf_85 2 rfl ?_
  have J95_86 : Wd (PicQ x M) g 7 (ad, ds, (m2 (it (lX0_drawOf_q_15 k) ((m2 (m2 m 0 14 (nI k)) 0 15 (nI 0)), (-1), (-1)) 20).1 0 14 (-1))) (0 + 20 * (c + c)) (0 + 20 * (e + e)) 95 [] [.int (if what = 0 then (it (lX0_drawOf_q_15 k) ((m2 (m2 m 0 14 (nI k)) 0 15 (nI 0)), (-1), (-1)) 20).2.1 else (it (lX0_drawOf_q_15 k) ((m2 (m2 m 0 14 (nI k)) 0 15 (nI 0)), (-1), (-1)) 20).2.2)] := by
    exact hret _ _ _ _ _ _ (by omega) (by omega) dX0_drawOf_95 rfl ⟨congrArg (fun z => some (Value.int z)) (rfl), rfl⟩
  refine ro_if_ne (tgt := 93) F dX0_drawOf_86 (by decide) (fun c86 => ?_) (fun c86 => ?_)
  · refine ro_iload F dX0_drawOf_93 4 rfl ?_
    exact Wd.sub (lv' := []) [] rfl <| Wd.to J95_86 rfl rfl (congrArg (fun z => ([Value.int z] : List Value)) (by simp only [if_neg c86]))
  · refine ro_iload_n F dX0_drawOf_89 3 rfl ?_
    refine ro_goto (tgt := 95) F dX0_drawOf_90 (by decide) ?_
    exact Wd.sub (lv' := []) [] rfl <| Wd.to J95_86 rfl rfl (congrArg (fun z => ([Value.int z] : List Value)) (by simp only [if_pos c86]))
