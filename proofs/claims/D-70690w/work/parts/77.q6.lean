/-! the class over the lazy world: generated -/
theorem Wd.kn {α : Type} {Pic : α → Heap → Prop} {g : Gx} {nL : Nat} {w : α} {k n k' n' pc : Nat} {lv : Lv} {st : List Value} (h1 : k = k') (h2 : n = n') (kk : Wd Pic g nL w k' n' pc lv st) : Wd Pic g nL w k n pc lv st := by subst h1; subst h2; exact kk
theorem ml1 (u : Nat) {i N : Nat} (h : i + 1 ≤ N) : i * u + u ≤ N * u := by
  have h1 := Nat.mul_le_mul_right u h
  rw [Nat.add_one_mul] at h1
  exact h1
noncomputable def lX0_neverNow_q_4 (i4 : Nat) (b4 : Mem × Int32) : Mem × Int32 := ((fX0_isSeen_q (m2 b4.1 0 12 ((nI 1) <<< ((nI i4) &&& 31)))), (b4.2 ||| (if (rX0_isSeen_q (m2 b4.1 0 12 ((nI 1) <<< ((nI i4) &&& 31)))) = 0 then (nI 0) else ((nI 1) <<< ((nI i4) &&& 31)))))
theorem fr_lX0_neverNow_q_4 (i4 : Nat) (b4 : Mem × Int32) (f : Nat) (h0 : f % 64 ≠ 0) (h1 : f % 64 ≠ 1) (h2 : f % 64 ≠ 2) (h6 : f % 64 ≠ 6) (h7 : f % 64 ≠ 7) (h8 : f % 64 ≠ 8) (h9 : f % 64 ≠ 9) (h11 : f % 64 ≠ 11) : (lX0_neverNow_q_4  i4 b4).1 f = b4.1 f := (fr_fX0_isSeen_q  (m2 b4.1 0 12 ((nI 1) <<< ((nI i4) &&& 31))) f h0 h1 h2 h6 h7 h8 h9 h11).trans ((m2_ff _ _ (by omega)).trans (rfl))
theorem fi_lX0_neverNow_q_4 (b4 : Mem × Int32) (n_ : Nat) (f : Nat) (h0 : f % 64 ≠ 0) (h1 : f % 64 ≠ 1) (h2 : f % 64 ≠ 2) (h6 : f % 64 ≠ 6) (h7 : f % 64 ≠ 7) (h8 : f % 64 ≠ 8) (h9 : f % 64 ≠ 9) (h11 : f % 64 ≠ 11) : (it lX0_neverNow_q_4 b4 n_).1 f = b4.1 f := it_fr1 (fun i_ b_ => fr_lX0_neverNow_q_4  i_ b_ f h0 h1 h2 h6 h7 h8 h9 h11) n_
theorem fql_lX0_neverNow_q_4 (i4 : Nat) (b4 : Mem × Int32) (h_ : FrQ b4.1) : FrQ (lX0_neverNow_q_4  i4 b4).1 := (fq_fX0_isSeen_q  _ (frq_m2 h_ (by omega) (by omega)))
theorem fqi_lX0_neverNow_q_4 (b4 : Mem × Int32) (n_ : Nat) (h_ : FrQ b4.1) : FrQ (it lX0_neverNow_q_4 b4 n_).1 := it_inv (P := fun b_ => FrQ b_.1) h_ (fun i_ b_ hb_ => fql_lX0_neverNow_q_4  i_ b_ hb_) n_
noncomputable def rX0_neverNow_q (m : Mem) : Int32 := (it lX0_neverNow_q_4 (m, (nI 0)) (nn m 4)).2
noncomputable def fX0_neverNow_q (m : Mem) : Mem := (m2 (it lX0_neverNow_q_4 (m, (nI 0)) (nn m 4)).1 0 12 (nI 0))
theorem fr_fX0_neverNow_q (m : Mem) (f : Nat) (h0 : f % 64 ≠ 0) (h1 : f % 64 ≠ 1) (h2 : f % 64 ≠ 2) (h6 : f % 64 ≠ 6) (h7 : f % 64 ≠ 7) (h8 : f % 64 ≠ 8) (h9 : f % 64 ≠ 9) (h11 : f % 64 ≠ 11) : fX0_neverNow_q m f = m f := (m2_ff _ _ (by omega)).trans ((show (it lX0_neverNow_q_4 (m, (nI 0)) (nn m 4)).1 f = m f from fi_lX0_neverNow_q_4  (m, (nI 0)) (nn m 4) f h0 h1 h2 h6 h7 h8 h9 h11).trans (rfl))
theorem fq_fX0_neverNow_q (m : Mem) (h_ : FrQ m) : FrQ (fX0_neverNow_q m) := (frq_m2 (show FrQ ((it lX0_neverNow_q_4 (m, (nI 0)) (nn m 4)).1) from fqi_lX0_neverNow_q_4  (m, (nI 0)) _ h_) (by omega) (by omega))
set_option maxHeartbeats 4000000 in
set_option maxRecDepth 100000 in
theorem metX0_neverNow_q (l : Launch) (x : Hx) (M : Bool × Bool) (ad : Nat → Nat) (ds : Nat → Option Lay) (m : Mem) (c e : Nat)  (hc : FrQ m ∨ (18 ≤ c ∧ 114 ≤ e)) (hs : SeenOK m) : Cn l yX0_neverNow (wsW_ yX0_neverNow cX0_neverNow 4 (some .int) [(2, 45, 53, 0)]) 16 (8 * (c + c)) (8 * (e + e)) [.ref (ad 0)] (PicQ x M) (KC x) (hx_A x) (ad, ds, m) (fun rv_ w_ => rv_ = some (.int (rX0_neverNow_q m)) ∧ w_ = (ad, ds, (fX0_neverNow_q m))) := by
  refine cnw_i (own := RX0) rfl (Nat.le_of_ble_eq_true rfl) rfl (fun g hgl hA F hret => ?_)
  refine Wd.eql (lv' := [(0, .ref (ad 0))]) rfl ?_
  refine q_wf (fun hwf => ?_)
  obtain ⟨⟨hn0, lb0⟩, ⟨hn1, lb1⟩, ⟨hn2, lb2⟩, ⟨hn3, lb3⟩, ⟨hn4, lb4⟩⟩ := hwf
  have hmx := Nat.mul_le_mul_right (c + c) lb2
  have hmy := Nat.mul_le_mul_right (e + e) lb2
  refine ro_iconst (v := (nI 0)) F dX0_neverNow_0 (by decide) ?_
  refine ro_istore_n (lv' := [(0, .ref (ad 0)), (1, .int (nI 0))]) F dX0_neverNow_1 (Nat.le_of_ble_eq_true rfl) [1, 0] rfl ?_
  refine ro_iconst (v := (nI 0)) F dX0_neverNow_2 (by decide) ?_
  refine ro_istore_n (lv' := [(0, .ref (ad 0)), (1, .int (nI 0)), (2, .int (nI 0))]) F dX0_neverNow_3 (Nat.le_of_ble_eq_true rfl) [1, 2, 0] rfl ?_
  refine Wd.kn (k' := 0 + 0 * (c + c)) (n' := 0 + 0 * (e + e)) (by rw [Nat.zero_mul, Nat.add_zero]) (by rw [Nat.zero_mul, Nat.add_zero]) ?_
  refine it_loop (nn m 4) lX0_neverNow_q_4 (m, (nI 0)) (fun (i4 : Nat) (b4 : Mem × Int32) => (∀ f : Nat, f % 64 ≠ 0 → f % 64 ≠ 1 → f % 64 ≠ 2 → f % 64 ≠ 6 → f % 64 ≠ 7 → f % 64 ≠ 8 → f % 64 ≠ 9 → f % 64 ≠ 11 → b4.1 f = m f) ∧ (FrQ b4.1 ∨ (18 ≤ c ∧ 114 ≤ e))) (fun (i4 : Nat) (b4 : Mem × Int32) => Wd (PicQ x M) g 4 (ad, ds, b4.1) (0 + i4 * (c + c)) (0 + i4 * (e + e)) 4 [(0, .ref (ad 0)), (1, .int b4.2), (2, .int (nI i4))] []) ⟨(fun f _ _ _ _ _ _ _ _ => rfl), hc⟩ (fun i4 b4 hlt hb => ⟨fun f h0 h1 h2 h6 h7 h8 h9 h11 => (fr_lX0_neverNow_q_4  i4 b4 f h0 h1 h2 h6 h7 h8 h9 h11).trans (hb.1 f h0 h1 h2 h6 h7 h8 h9 h11), Or.inl (fQ_fr _)⟩) (fun i4 b4 hi4 hf4 ih4 => ?_) (fun b4 hf4 he4 => ?_)
  · obtain ⟨hf4, hx4⟩ := hf4
    dsimp only [lX0_neverNow_q_4] at ih4
    have hml := ml1 (c + c) (show i4 + 1 ≤ 8 by omega)
    have hnl := ml1 (e + e) (show i4 + 1 ≤ 8 by omega)
    refine ro_iload_n F dX0_neverNow_4 2 rfl ?_
    refine ro_aload_n F dX0_neverNow_5 0 rfl ?_
    refine hq_getR F in_X0 (ci := 0) rfl 0 4 rfl (nhd (by decide)) (nhd (by decide)) 4 (by decide) qX0_34 (fun _ h => h) (Nat.le_of_ble_eq_true rfl) rfl dX0_neverNow_6 ?_
    refine hq_size (len := 2) F hA (Or.inl ⟨rfl, rfl⟩) cwX0_170 (Nat.le_of_ble_eq_true rfl) (by omega) (by omega) (Nat.le_of_ble_eq_true rfl) dX0_neverNow_9 ?_
    refine ro_eqi (y := nI (nn m 4)) (congrArg nI (nn_eq (hf4 4 (by omega) (by omega) (by omega) (by omega) (by omega) (by omega) (by omega) (by omega)))) ?_
    refine ro_icmp_geN (tgt := 45) F dX0_neverNow_12 (by decide) (by omega) (by omega) (fun c12 => absurd c12 (by omega)) (fun c12 => ?_)
    refine ro_aload_n F dX0_neverNow_15 0 rfl ?_
    refine ro_iconst (v := (nI 1)) F dX0_neverNow_16 (by decide) ?_
    refine ro_iload_n F dX0_neverNow_17 2 rfl ?_
    refine ro_ishl F dX0_neverNow_18 ?_
    refine hq_put F hA in_X0 tyX0 tyX0_ok nmX0 (ci := 0) rfl 0 rfl (by decide) ⟨by decide, by decide, by decide, by decide, by decide, by decide, by decide, by decide, by decide⟩ 12 (by decide) qX0_215 (fun _ h => h) (Nat.le_of_ble_eq_true rfl) rfl rfl rfl rfl dX0_neverNow_19 ?_
    refine ro_iload_n F dX0_neverNow_22 1 rfl ?_
    refine ro_aload_n F dX0_neverNow_23 0 rfl ?_
    refine hq_cV (c' := (c + c)) (e' := (e + e)) (rest := [.int b4.2]) F hA (metX0_isSeen_q (gx_l g) x M ad ds (m2 b4.1 0 12 ((nI 1) <<< ((nI i4) &&& 31))) c e  (hx4.imp (fun z => (frq_m2 z (by omega) (by omega))) id) (SeenOK.fr hs (fun f hf => (m2_ff _ _ (by omega)).trans (hf4 f (by omega) (by omega) (by omega) (by omega) (by omega) (by omega) (by omega) (by omega))))) cwX0_308 hdX0_isSeen rfl (Nat.le_of_ble_eq_true rfl) (Nat.le_of_ble_eq_true rfl) (by omega) (by omega) rfl (Nat.le_of_ble_eq_true rfl) dX0_neverNow_24 ?_
    have J37_27 : Wd (PicQ x M) g 4 (ad, ds, (fX0_isSeen_q (m2 b4.1 0 12 ((nI 1) <<< ((nI i4) &&& 31))))) ((0 + i4 * (c + c)) + (c + c)) ((0 + i4 * (e + e)) + (e + e)) 37 [(0, .ref (ad 0)), (2, .int (nI i4))] [.int (if (rX0_isSeen_q (m2 b4.1 0 12 ((nI 1) <<< ((nI i4) &&& 31)))) = 0 then (nI 0) else ((nI 1) <<< ((nI i4) &&& 31))), .int b4.2] := by
      refine ro_ior F dX0_neverNow_37 ?_
      refine ro_istore_n (lv' := [(0, .ref (ad 0)), (1, .int (b4.2 ||| (if (rX0_isSeen_q (m2 b4.1 0 12 ((nI 1) <<< ((nI i4) &&& 31)))) = 0 then (nI 0) else ((nI 1) <<< ((nI i4) &&& 31))))), (2, .int (nI i4))]) F dX0_neverNow_38 (Nat.le_of_ble_eq_true rfl) [1, 0, 2] rfl ?_
      refine ro_iincN (z := 1) (lv' := [(0, .ref (ad 0)), (1, .int (b4.2 ||| (if (rX0_isSeen_q (m2 b4.1 0 12 ((nI 1) <<< ((nI i4) &&& 31)))) = 0 then (nI 0) else ((nI 1) <<< ((nI i4) &&& 31))))), (2, .int (nI (i4 + 1)))]) F dX0_neverNow_39 2 rfl (Nat.le_of_ble_eq_true rfl) [1, 2, 0] rfl ?_
      refine ro_goto (tgt := 4) F dX0_neverNow_42 (by decide) ?_
      exact Wd.kn (k' := 0 + (i4 + 1) * (c + c)) (n' := 0 + (i4 + 1) * (e + e)) (by rw [Nat.add_one_mul]; omega) (by rw [Nat.add_one_mul]; omega) <| Wd.to ih4 rfl rfl rfl
    refine ro_if_eq (tgt := 36) F dX0_neverNow_27 (by decide) (fun c27 => ?_) (fun c27 => ?_)
    · refine ro_iconst (v := (nI 0)) F dX0_neverNow_36 (by decide) ?_
      exact Wd.sub (lv' := [(0, .ref (ad 0)), (2, .int (nI i4))]) [0, 2] rfl <| Wd.to J37_27 rfl rfl (congrArg (fun z => ([Value.int z, .int b4.2] : List Value)) (by simp only [if_pos c27]))
    · refine ro_iconst (v := (nI 1)) F dX0_neverNow_30 (by decide) ?_
      refine ro_iload_n F dX0_neverNow_31 2 rfl ?_
      refine ro_ishl F dX0_neverNow_32 ?_
      refine ro_goto (tgt := 37) F dX0_neverNow_33 (by decide) ?_
      exact Wd.sub (lv' := [(0, .ref (ad 0)), (2, .int (nI i4))]) [0, 2] rfl <| Wd.to J37_27 rfl rfl (congrArg (fun z => ([Value.int z, .int b4.2] : List Value)) (by simp only [if_neg c27]))
  subst he4
  obtain ⟨hf4, hx4⟩ := hf4
  refine ro_iload_n F dX0_neverNow_4 2 rfl ?_
  refine ro_aload_n F dX0_neverNow_5 0 rfl ?_
  refine hq_getR F in_X0 (ci := 0) rfl 0 4 rfl (nhd (by decide)) (nhd (by decide)) 4 (by decide) qX0_34 (fun _ h => h) (Nat.le_of_ble_eq_true rfl) rfl dX0_neverNow_6 ?_
  refine hq_size (len := 2) F hA (Or.inl ⟨rfl, rfl⟩) cwX0_170 (Nat.le_of_ble_eq_true rfl) (by omega) (by omega) (Nat.le_of_ble_eq_true rfl) dX0_neverNow_9 ?_
  refine ro_eqi (y := nI (nn m 4)) (congrArg nI (nn_eq (show (it lX0_neverNow_q_4 (m, (nI 0)) (nn m 4)).1 4 = m 4 from fi_lX0_neverNow_q_4  (m, (nI 0)) (nn m 4) 4 (by omega) (by omega) (by omega) (by omega) (by omega) (by omega) (by omega) (by omega)))) ?_
  refine ro_icmp_geN (tgt := 45) F dX0_neverNow_12 (by decide) (by omega) (by omega) (fun c12 => ?_) (fun c12 => absurd c12 (by omega))
  refine ro_aload_n F dX0_neverNow_45 0 rfl ?_
  refine ro_iconst (v := (nI 0)) F dX0_neverNow_46 (by decide) ?_
  refine hq_put F hA in_X0 tyX0 tyX0_ok nmX0 (ci := 0) rfl 0 rfl (by decide) ⟨by decide, by decide, by decide, by decide, by decide, by decide, by decide, by decide, by decide⟩ 12 (by decide) qX0_215 (fun _ h => h) (Nat.le_of_ble_eq_true rfl) rfl rfl rfl rfl dX0_neverNow_47 ?_
  refine ro_goto (tgt := 61) F dX0_neverNow_50 (by decide) ?_
  refine ro_iload_n F dX0_neverNow_61 1 rfl ?_
  exact hret _ _ _ _ _ _ (by omega) (by omega) dX0_neverNow_62 rfl ⟨congrArg (fun z => some (Value.int z)) (rfl), rfl⟩
