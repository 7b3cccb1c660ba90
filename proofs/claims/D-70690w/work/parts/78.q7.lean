/-! the class over the lazy world: generated -/
noncomputable def lX0_ratesNow_q_16 (i16 : Nat) (b16 : Mem × Int32) : Mem × Int32 := ((m2 (fX0_isSeen_q b16.1) 3 0 (nI (i16 + 1))), (b16.2 ||| (if (rX0_isSeen_q b16.1) = 0 then (nI 0) else ((nI 1) <<< ((nI i16) &&& 31)))))
theorem fr_lX0_ratesNow_q_16 (i16 : Nat) (b16 : Mem × Int32) (f : Nat) (h0 : f % 64 ≠ 0) (h1 : f % 64 ≠ 1) (h2 : f % 64 ≠ 2) (h3 : f % 64 ≠ 3) (h6 : f % 64 ≠ 6) (h7 : f % 64 ≠ 7) (h8 : f % 64 ≠ 8) (h9 : f % 64 ≠ 9) (h11 : f % 64 ≠ 11) : (lX0_ratesNow_q_16  i16 b16).1 f = b16.1 f := (m2_ff _ _ (by omega)).trans ((fr_fX0_isSeen_q  b16.1 f h0 h1 h2 h6 h7 h8 h9 h11).trans (rfl))
theorem fi_lX0_ratesNow_q_16 (b16 : Mem × Int32) (n_ : Nat) (f : Nat) (h0 : f % 64 ≠ 0) (h1 : f % 64 ≠ 1) (h2 : f % 64 ≠ 2) (h3 : f % 64 ≠ 3) (h6 : f % 64 ≠ 6) (h7 : f % 64 ≠ 7) (h8 : f % 64 ≠ 8) (h9 : f % 64 ≠ 9) (h11 : f % 64 ≠ 11) : (it lX0_ratesNow_q_16 b16 n_).1 f = b16.1 f := it_fr1 (fun i_ b_ => fr_lX0_ratesNow_q_16  i_ b_ f h0 h1 h2 h3 h6 h7 h8 h9 h11) n_
theorem fql_lX0_ratesNow_q_16 (i16 : Nat) (b16 : Mem × Int32) (h_ : FrQ b16.1) : FrQ (lX0_ratesNow_q_16  i16 b16).1 := (frq_m2 (fq_fX0_isSeen_q  _ h_) (by omega) (by omega))
theorem fqi_lX0_ratesNow_q_16 (b16 : Mem × Int32) (n_ : Nat) (h_ : FrQ b16.1) : FrQ (it lX0_ratesNow_q_16 b16 n_).1 := it_inv (P := fun b_ => FrQ b_.1) h_ (fun i_ b_ hb_ => fql_lX0_ratesNow_q_16  i_ b_ hb_) n_
noncomputable def rX0_ratesNow_q (m : Mem) : Int32 := (it lX0_ratesNow_q_16 ((m2 m 3 0 (nI 0)), (nI 0)) 10).2
noncomputable def fX0_ratesNow_q (m : Mem) : Mem := (m2 (it lX0_ratesNow_q_16 ((m2 m 3 0 (nI 0)), (nI 0)) 10).1 3 0 (m 3 0))
theorem fr_fX0_ratesNow_q (m : Mem) (f : Nat) (h0 : f % 64 ≠ 0) (h1 : f % 64 ≠ 1) (h2 : f % 64 ≠ 2) (h3 : f % 64 ≠ 3) (h6 : f % 64 ≠ 6) (h7 : f % 64 ≠ 7) (h8 : f % 64 ≠ 8) (h9 : f % 64 ≠ 9) (h11 : f % 64 ≠ 11) : fX0_ratesNow_q m f = m f := (m2_ff _ _ (by omega)).trans ((show (it lX0_ratesNow_q_16 ((m2 m 3 0 (nI 0)), (nI 0)) 10).1 f = (m2 m 3 0 (nI 0)) f from fi_lX0_ratesNow_q_16  ((m2 m 3 0 (nI 0)), (nI 0)) 10 f h0 h1 h2 h3 h6 h7 h8 h9 h11).trans ((m2_ff _ _ (by omega)).trans (rfl)))
theorem fq_fX0_ratesNow_q (m : Mem) (h_ : FrQ m) : FrQ (fX0_ratesNow_q m) := (frq_m2 (show FrQ ((it lX0_ratesNow_q_16 ((m2 m 3 0 (nI 0)), (nI 0)) 10).1) from fqi_lX0_ratesNow_q_16  ((m2 m 3 0 (nI 0)), (nI 0)) _ (frq_m2 h_ (by omega) (by omega))) (by omega) (by omega))
set_option maxHeartbeats 4000000 in
set_option maxRecDepth 100000 in
theorem metX0_ratesNow_q (l : Launch) (x : Hx) (M : Bool × Bool) (ad : Nat → Nat) (ds : Nat → Option Lay) (m : Mem) (c e : Nat)  (hc : FrQ m ∨ (18 ≤ c ∧ 114 ≤ e)) (hs : SeenOK m) : Cn l yX0_ratesNow (wsW_ yX0_ratesNow cX0_ratesNow 4 (some .int) [(9, 62, 72, 0)]) 16 (10 * (c + c)) (10 * (e + e)) [.ref (ad 0)] (PicQ x M) (KC x) (hx_A x) (ad, ds, m) (fun rv_ w_ => rv_ = some (.int (rX0_ratesNow_q m)) ∧ w_ = (ad, ds, (fX0_ratesNow_q m))) := by
  refine cnw_i (own := RX0) rfl (Nat.le_of_ble_eq_true rfl) rfl (fun g hgl hA F hret => ?_)
  refine Wd.eql (lv' := [(0, .ref (ad 0))]) rfl ?_
  refine q_wf (fun hwf => ?_)
  obtain ⟨⟨hn0, lb0⟩, ⟨hn1, lb1⟩, ⟨hn2, lb2⟩, ⟨hn3, lb3⟩, ⟨hn4, lb4⟩⟩ := hwf
  refine ro_aload_n F dX0_ratesNow_0 0 rfl ?_
  refine hq_getR F in_X0 (ci := 0) rfl 0 3 rfl (nhd (by decide)) (nhd (by decide)) 3 (by decide) qX0_27 (fun _ h => h) (Nat.le_of_ble_eq_true rfl) rfl dX0_ratesNow_1 ?_
  refine ro_iconst (v := (nI 0)) F dX0_ratesNow_4 (by decide) ?_
  refine hq_ldI F 3 2 rfl (by decide) (by decide) (by omega) dX0_ratesNow_5 rfl ?_
  refine ro_istore_n (lv' := [(0, .ref (ad 0)), (1, .int (m 3 0))]) F dX0_ratesNow_6 (Nat.le_of_ble_eq_true rfl) [1, 0] rfl ?_
  refine ro_iconst (v := (nI 0)) F dX0_ratesNow_7 (by decide) ?_
  refine ro_istore_n (lv' := [(0, .ref (ad 0)), (1, .int (m 3 0)), (2, .int (nI 0))]) F dX0_ratesNow_8 (Nat.le_of_ble_eq_true rfl) [1, 2, 0] rfl ?_
  refine ro_aload_n F dX0_ratesNow_9 0 rfl ?_
  refine hq_getR F in_X0 (ci := 0) rfl 0 3 rfl (nhd (by decide)) (nhd (by decide)) 3 (by decide) qX0_27 (fun _ h => h) (Nat.le_of_ble_eq_true rfl) rfl dX0_ratesNow_10 ?_
  refine ro_iconst (v := (nI 0)) F dX0_ratesNow_13 (by decide) ?_
  refine ro_iconst (v := (nI 0)) F dX0_ratesNow_14 (by decide) ?_
  refine hq_stI F hA 3 2 rfl (by decide) ⟨by decide, by decide, by decide, by decide, by decide, by decide, by decide, by decide, by decide, by decide⟩ (by decide) (by omega) dX0_ratesNow_15 ?_
  refine Wd.kn (k' := 0 + 0 * (c + c)) (n' := 0 + 0 * (e + e)) (by rw [Nat.zero_mul, Nat.add_zero]) (by rw [Nat.zero_mul, Nat.add_zero]) ?_
  refine it_loop 10 lX0_ratesNow_q_16 ((m2 m 3 0 (nI 0)), (nI 0)) (fun (i16 : Nat) (b16 : Mem × Int32) => (∀ f : Nat, f % 64 ≠ 0 → f % 64 ≠ 1 → f % 64 ≠ 2 → f % 64 ≠ 3 → f % 64 ≠ 6 → f % 64 ≠ 7 → f % 64 ≠ 8 → f % 64 ≠ 9 → f % 64 ≠ 11 → b16.1 f = (m2 m 3 0 (nI 0)) f) ∧ (b16.1 3 0 = nI i16 ∧ (FrQ b16.1 ∨ (18 ≤ c ∧ 114 ≤ e)))) (fun (i16 : Nat) (b16 : Mem × Int32) => Wd (PicQ x M) g 4 (ad, ds, b16.1) (0 + i16 * (c + c)) (0 + i16 * (e + e)) 16 [(0, .ref (ad 0)), (1, .int (m 3 0)), (2, .int b16.2)] []) ⟨(fun f _ _ _ _ _ _ _ _ _ => rfl), ⟨show m2 m 3 0 (nI 0) 3 0 = _ from m2_self _ _ _ _, (show FrQ (m2 m 3 0 (nI 0)) ∨ _ from hc.imp (fun z => frq_m2 z (by decide) (by decide)) id)⟩⟩ (fun i16 b16 hlt hb => ⟨fun f h0 h1 h2 h3 h6 h7 h8 h9 h11 => (fr_lX0_ratesNow_q_16  i16 b16 f h0 h1 h2 h3 h6 h7 h8 h9 h11).trans (hb.1 f h0 h1 h2 h3 h6 h7 h8 h9 h11), (by unfold lX0_ratesNow_q_16; dsimp only; exact ⟨m2_self _ _ _ _, Or.inl (frq_m2 (fQ_fr _) (by decide) (by decide))⟩)⟩) (fun i16 b16 hi16 hf16 ih16 => ?_) (fun b16 hf16 he16 => ?_)
  · obtain ⟨hf16, hx16⟩ := hf16
    dsimp only [lX0_ratesNow_q_16] at ih16
    have hml := ml1 (c + c) (show i16 + 1 ≤ 10 by omega)
    have hnl := ml1 (e + e) (show i16 + 1 ≤ 10 by omega)
    refine ro_aload_n F dX0_ratesNow_16 0 rfl ?_
    refine hq_getR F in_X0 (ci := 0) rfl 0 3 rfl (nhd (by decide)) (nhd (by decide)) 3 (by decide) qX0_27 (fun _ h => h) (Nat.le_of_ble_eq_true rfl) rfl dX0_ratesNow_17 ?_
    refine ro_iconst (v := (nI 0)) F dX0_ratesNow_20 (by decide) ?_
    refine hq_ldI F 3 2 rfl (by decide) (by decide) (by omega) dX0_ratesNow_21 hx16.1 ?_
    refine ro_bipush (v := (nI 9)) F dX0_ratesNow_22 (by decide) ?_
    refine ro_icmp_gtN (tgt := 62) F dX0_ratesNow_24 (by decide) (by omega) (by omega) (fun c24 => absurd c24 (by omega)) (fun c24 => ?_)
    refine ro_iload_n F dX0_ratesNow_27 2 rfl ?_
    refine ro_aload_n F dX0_ratesNow_28 0 rfl ?_
    refine hq_cV (c' := (c + c)) (e' := (e + e)) (rest := [.int b16.2]) F hA (metX0_isSeen_q (gx_l g) x M ad ds b16.1 c e  (hx16.2.imp (fun z => z) id) (SeenOK.fr hs (fun f hf => (hf16 f (by omega) (by omega) (by omega) (by omega) (by omega) (by omega) (by omega) (by omega) (by omega)).trans (m2_ff _ _ (by omega))))) cwX0_308 hdX0_isSeen rfl (Nat.le_of_ble_eq_true rfl) (Nat.le_of_ble_eq_true rfl) (by omega) (by omega) rfl (Nat.le_of_ble_eq_true rfl) dX0_ratesNow_29 ?_
    have J47_32 : Wd (PicQ x M) g 4 (ad, ds, (fX0_isSeen_q b16.1)) ((0 + i16 * (c + c)) + (c + c)) ((0 + i16 * (e + e)) + (e + e)) 47 [(0, .ref (ad 0)), (1, .int (m 3 0))] [.int (if (rX0_isSeen_q b16.1) = 0 then (nI 0) else ((nI 1) <<< ((nI i16) &&& 31))), .int b16.2] := by
      refine ro_ior F dX0_ratesNow_47 ?_
      refine ro_istore_n (lv' := [(0, .ref (ad 0)), (1, .int (m 3 0)), (2, .int (b16.2 ||| (if (rX0_isSeen_q b16.1) = 0 then (nI 0) else ((nI 1) <<< ((nI i16) &&& 31)))))]) F dX0_ratesNow_48 (Nat.le_of_ble_eq_true rfl) [1, 2, 0] rfl ?_
      refine ro_aload_n F dX0_ratesNow_49 0 rfl ?_
      refine hq_getR F in_X0 (ci := 0) rfl 0 3 rfl (nhd (by decide)) (nhd (by decide)) 3 (by decide) qX0_27 (fun _ h => h) (Nat.le_of_ble_eq_true rfl) rfl dX0_ratesNow_50 ?_
      refine ro_iconst (v := (nI 0)) F dX0_ratesNow_53 (by decide) ?_
      refine ro_dup2 F dX0_ratesNow_54 rfl rfl ?_
      refine hq_ldI F 3 2 rfl (by decide) (by decide) (by omega) dX0_ratesNow_55 ((congrFun (fr_fX0_isSeen_q  b16.1 3 (by omega) (by omega) (by omega) (by omega) (by omega) (by omega) (by omega) (by omega)) 0).trans (hx16.1)) ?_
      refine ro_iconst (v := (nI 1)) F dX0_ratesNow_56 (by decide) ?_
      refine ro_iaddN F dX0_ratesNow_57 ?_
      refine hq_stI F hA 3 2 rfl (by decide) ⟨by decide, by decide, by decide, by decide, by decide, by decide, by decide, by decide, by decide, by decide⟩ (by decide) (by omega) dX0_ratesNow_58 ?_
      refine ro_goto (tgt := 16) F dX0_ratesNow_59 (by decide) ?_
      exact Wd.kn (k' := 0 + (i16 + 1) * (c + c)) (n' := 0 + (i16 + 1) * (e + e)) (by rw [Nat.add_one_mul]; omega) (by rw [Nat.add_one_mul]; omega) <| Wd.to ih16 rfl rfl rfl
    refine ro_if_eq (tgt := 46) F dX0_ratesNow_32 (by decide) (fun c32 => ?_) (fun c32 => ?_)
    · refine ro_iconst (v := (nI 0)) F dX0_ratesNow_46 (by decide) ?_
      exact Wd.sub (lv' := [(0, .ref (ad 0)), (1, .int (m 3 0))]) [0, 1] rfl <| Wd.to J47_32 rfl rfl (congrArg (fun z => ([Value.int z, .int b16.2] : List Value)) (by simp only [if_pos c32]))
    · refine ro_iconst (v := (nI 1)) F dX0_ratesNow_35 (by decide) ?_
      refine ro_aload_n F dX0_ratesNow_36 0 rfl ?_
      refine hq_getR F in_X0 (ci := 0) rfl 0 3 rfl (nhd (by decide)) (nhd (by decide)) 3 (by decide) qX0_27 (fun _ h => h) (Nat.le_of_ble_eq_true rfl) rfl dX0_ratesNow_37 ?_
      refine ro_iconst (v := (nI 0)) F dX0_ratesNow_40 (by decide) ?_
      refine hq_ldI F 3 2 rfl (by decide) (by decide) (by omega) dX0_ratesNow_41 ((congrFun (fr_fX0_isSeen_q  b16.1 3 (by omega) (by omega) (by omega) (by omega) (by omega) (by omega) (by omega) (by omega)) 0).trans (hx16.1)) ?_
      refine ro_ishl F dX0_ratesNow_42 ?_
      refine ro_goto (tgt := 47) F dX0_ratesNow_43 (by decide) ?_
      exact Wd.sub (lv' := [(0, .ref (ad 0)), (1, .int (m 3 0))]) [0, 1] rfl <| Wd.to J47_32 rfl rfl (congrArg (fun z => ([Value.int z, .int b16.2] : List Value)) (by simp only [if_neg c32]))
  subst he16
  obtain ⟨hf16, hx16⟩ := hf16
  refine ro_aload_n F dX0_ratesNow_16 0 rfl ?_
  refine hq_getR F in_X0 (ci := 0) rfl 0 3 rfl (nhd (by decide)) (nhd (by decide)) 3 (by decide) qX0_27 (fun _ h => h) (Nat.le_of_ble_eq_true rfl) rfl dX0_ratesNow_17 ?_
  refine ro_iconst (v := (nI 0)) F dX0_ratesNow_20 (by decide) ?_
  refine hq_ldI F 3 2 rfl (by decide) (by decide) (by omega) dX0_ratesNow_21 hx16.1 ?_
  refine ro_bipush (v := (nI 9)) F dX0_ratesNow_22 (by decide) ?_
  refine ro_icmp_gtN (tgt := 62) F dX0_ratesNow_24 (by decide) (by omega) (by omega) (fun c24 => ?_) (fun c24 => absurd c24 (by omega))
  refine ro_aload_n F dX0_ratesNow_62 0 rfl ?_
  refine hq_getR F in_X0 (ci := 0) rfl 0 3 rfl (nhd (by decide)) (nhd (by decide)) 3 (by decide) qX0_27 (fun _ h => h) (Nat.le_of_ble_eq_true rfl) rfl dX0_ratesNow_63 ?_
  refine ro_iconst (v := (nI 0)) F dX0_ratesNow_66 (by decide) ?_
  refine ro_iload_n F dX0_ratesNow_67 1 rfl ?_
  refine hq_stI F hA 3 2 rfl (by decide) ⟨by decide, by decide, by decide, by decide, by decide, by decide, by decide, by decide, by decide, by decide⟩ (by decide) (by omega) dX0_ratesNow_68 ?_
  refine ro_goto (tgt := 82) F dX0_ratesNow_69 (by decide) ?_
  refine ro_iload_n F dX0_ratesNow_82 2 rfl ?_
  exact hret _ _ _ _ _ _ (by omega) (by omega) dX0_ratesNow_83 rfl ⟨congrArg (fun z => some (Value.int z)) (rfl), rfl⟩
