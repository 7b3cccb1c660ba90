/-! the class over the lazy world: generated -/
def SeenOK (m : Mem) : Prop := ∀ k, k < nn m 21 → (∃ a, a < 20 ∧ m (21 + 64 * (k + 1)) 0 = nI a) ∧ ∃ b, b < 8 ∧ m (21 + 64 * (k + 1)) 1 = nI b
theorem SeenOK.fr {m m' : Mem} (h : SeenOK m) (hf : ∀ f, f % 64 = 21 → m' f = m f) : SeenOK m' := by
  intro k hk
  rw [hf _ (by omega)]
  exact h k (by rw [nn_eq (hf 21 (by decide))] at hk; exact hk)
theorem sn_0 {m : Mem} (h : SeenOK m) {k : Nat} (hk : k < nn m 21) : m (21 + 64 * (k + 1)) 0 = nI (m (21 + 64 * (k + 1)) 0).toNatClampNeg ∧ (m (21 + 64 * (k + 1)) 0).toNatClampNeg < 20 := by
  obtain ⟨⟨a, ha, e⟩, -⟩ := h k hk
  rw [e, nI_clamp (by omega)]
  exact ⟨rfl, ha⟩
theorem sn_1 {m : Mem} (h : SeenOK m) {k : Nat} (hk : k < nn m 21) : m (21 + 64 * (k + 1)) 1 = nI (m (21 + 64 * (k + 1)) 1).toNatClampNeg ∧ (m (21 + 64 * (k + 1)) 1).toNatClampNeg < 8 := by
  obtain ⟨-, b, hb, e⟩ := h k hk
  rw [e, nI_clamp (by omega)]
  exact ⟨rfl, hb⟩
noncomputable def lX0_alike_q_18 (sm : Int32) (d : Nat) (m : Mem) (i5 : Nat) (i18 : Nat) (b18 : Int32) : Int32 := (b18 + (b2 ((((sm >>> ((nI i5) &&& 31)) &&& (nI 1)) = (nI 1)) ∧ ((((sm >>> ((nI i18) &&& 31)) &&& (nI 1)) = (nI 1)) ∧ ((m (22 + 64 * (i5 + 1)) d) = (m (22 + 64 * (i18 + 1)) d))))))
noncomputable def lX0_alike_q_5 (sm : Int32) (d : Nat) (m : Mem) (i5 : Nat) (b5 : Int32) : Int32 := (mx_m (it (lX0_alike_q_18 sm d m i5) (nI 0) 10) b5)
noncomputable def rX0_alike_q (sm : Int32) (d : Nat) (m : Mem) : Int32 := (it (lX0_alike_q_5 sm d m) (nI 0) 10)
set_option maxHeartbeats 4000000 in
set_option maxRecDepth 100000 in
theorem metX0_alike_q (l : Launch) (x : Hx) (M : Bool × Bool) (ad : Nat → Nat) (ds : Nat → Option Lay) (m : Mem) (sm : Int32) (d : Nat) (hd : d < 20) : Cn l yX0_alike (ws_ yX0_alike cX0_alike 7 (some .int)) 2 0 0 [.ref (ad 0), .int sm, .int (nI d)] (PicQ x M) (KC x) (hx_A x) (ad, ds, m) (fun rv_ w_ => rv_ = some (.int (rX0_alike_q sm d m)) ∧ w_ = (ad, ds, m)) := by
  refine cn_i (own := RX0) rfl (Nat.le_of_ble_eq_true rfl) rfl (fun g hgl hA F hret => ?_)
  refine Wd.eql (lv' := [(0, .ref (ad 0)), (1, .int sm), (2, .int (nI d))]) rfl ?_
  refine q_wf (fun hwf => ?_)
  obtain ⟨⟨hn0, lb0⟩, ⟨hn1, lb1⟩, ⟨hn2, lb2⟩, ⟨hn3, lb3⟩, ⟨hn4, lb4⟩⟩ := hwf
  refine ro_iconst (v := (nI 0)) F dX0_alike_0 (by decide) ?_
  refine ro_istore_n (lv' := [(0, .ref (ad 0)), (1, .int sm), (2, .int (nI d)), (3, .int (nI 0))]) F dX0_alike_1 (Nat.le_of_ble_eq_true rfl) [1, 2, 3, 0] rfl ?_
  refine ro_iconst (v := (nI 0)) F dX0_alike_2 (by decide) ?_
  refine ro_istore (lv' := [(0, .ref (ad 0)), (1, .int sm), (2, .int (nI d)), (3, .int (nI 0)), (4, .int (nI 0))]) F dX0_alike_3 (Nat.le_of_ble_eq_true rfl) [1, 2, 3, 4, 0] rfl ?_
  refine it_loop 10 (lX0_alike_q_5 sm d m) (nI 0) (fun _ _ => True) (fun (i5 : Nat) (b5 : Int32) => Wd (PicQ x M) g 7 (ad, ds, m) 0 0 5 [(0, .ref (ad 0)), (1, .int sm), (2, .int (nI d)), (3, .int b5), (4, .int (nI i5))] []) trivial (fun _ _ _ _ => trivial) (fun i5 b5 hi5 hf5 ih5 => ?_) (fun b5 hf5 he5 => ?_)
  · refine ro_iload F dX0_alike_5 4 rfl ?_
    refine ro_bipush (v := (nI 10)) F dX0_alike_7 (by decide) ?_
    refine ro_icmp_geN (tgt := 93) F dX0_alike_9 (by decide) (by omega) (by omega) (fun c9 => absurd c9 (by omega)) (fun c9 => ?_)
    refine ro_iconst (v := (nI 0)) F dX0_alike_12 (by decide) ?_
    refine ro_istore (lv' := [(0, .ref (ad 0)), (1, .int sm), (2, .int (nI d)), (3, .int b5), (4, .int (nI i5)), (5, .int (nI 0))]) F dX0_alike_13 (Nat.le_of_ble_eq_true rfl) [1, 2, 3, 4, 5, 0] rfl ?_
    refine ro_iconst (v := (nI 0)) F dX0_alike_15 (by decide) ?_
    refine ro_istore (lv' := [(0, .ref (ad 0)), (1, .int sm), (2, .int (nI d)), (3, .int b5), (4, .int (nI i5)), (5, .int (nI 0)), (6, .int (nI 0))]) F dX0_alike_16 (Nat.le_of_ble_eq_true rfl) [1, 2, 3, 4, 5, 6, 0] rfl ?_
    refine it_loop 10 (lX0_alike_q_18 sm d m i5) (nI 0) (fun _ _ => True) (fun (i18 : Nat) (b18 : Int32) => Wd (PicQ x M) g 7 (ad, ds, m) 0 0 18 [(0, .ref (ad 0)), (1, .int sm), (2, .int (nI d)), (3, .int b5), (4, .int (nI i5)), (5, .int b18), (6, .int (nI i18))] []) trivial (fun _ _ _ _ => trivial) (fun i18 b18 hi18 hf18 ih18 => ?_) (fun b18 hf18 he18 => ?_)
    · refine ro_iload F dX0_alike_18 6 rfl ?_
      refine ro_bipush (v := (nI 10)) F dX0_alike_20 (by decide) ?_
      refine ro_icmp_geN (tgt := 80) F dX0_alike_22 (by decide) (by omega) (by omega) (fun c22 => absurd c22 (by omega)) (fun c22 => ?_)
      refine ro_iload F dX0_alike_25 5 rfl ?_
      refine ro_iload_n F dX0_alike_27 1 rfl ?_
      refine ro_iload F dX0_alike_28 4 rfl ?_
      refine hq_cS (rest := [.int b18]) F hA (metX0_isIn_q (gx_l g) x M ad ds m sm (nI i5) ) cwX0_208 hdX0_isIn.2 rfl (Nat.le_of_ble_eq_true rfl) (Nat.le_of_ble_eq_true rfl) (by omega) (by omega) rfl (Nat.le_of_ble_eq_true rfl) dX0_alike_30 ?_
      have J71_33 : Wd (PicQ x M) g 7 (ad, ds, m) 0 0 71 [(0, .ref (ad 0)), (1, .int sm), (2, .int (nI d)), (3, .int b5), (4, .int (nI i5)), (6, .int (nI i18))] [.int (b2 ((((sm >>> ((nI i5) &&& 31)) &&& (nI 1)) = (nI 1)) ∧ ((((sm >>> ((nI i18) &&& 31)) &&& (nI 1)) = (nI 1)) ∧ ((m (22 + 64 * (i5 + 1)) d) = (m (22 + 64 * (i18 + 1)) d))))), .int b18] := by
        refine ro_iadd F dX0_alike_71 ?_
        refine ro_istore (lv' := [(0, .ref (ad 0)), (1, .int sm), (2, .int (nI d)), (3, .int b5), (4, .int (nI i5)), (5, .int (b18 + (b2 ((((sm >>> ((nI i5) &&& 31)) &&& (nI 1)) = (nI 1)) ∧ ((((sm >>> ((nI i18) &&& 31)) &&& (nI 1)) = (nI 1)) ∧ ((m (22 + 64 * (i5 + 1)) d) = (m (22 + 64 * (i18 + 1)) d))))))), (6, .int (nI i18))]) F dX0_alike_72 (Nat.le_of_ble_eq_true rfl) [1, 2, 3, 4, 5, 0, 6] rfl ?_
        refine ro_iincN (z := 1) (lv' := [(0, .ref (ad 0)), (1, .int sm), (2, .int (nI d)), (3, .int b5), (4, .int (nI i5)), (5, .int (b18 + (b2 ((((sm >>> ((nI i5) &&& 31)) &&& (nI 1)) = (nI 1)) ∧ ((((sm >>> ((nI i18) &&& 31)) &&& (nI 1)) = (nI 1)) ∧ ((m (22 + 64 * (i5 + 1)) d) = (m (22 + 64 * (i18 + 1)) d))))))), (6, .int (nI (i18 + 1)))]) F dX0_alike_74 6 rfl (Nat.le_of_ble_eq_true rfl) [1, 2, 3, 4, 5, 6, 0] rfl ?_
        refine ro_goto (tgt := 18) F dX0_alike_77 (by decide) ?_
        exact ih18
      refine ro_if_eqB (tgt := 70) F dX0_alike_33 (by decide) (fun c33 => ?_) (fun c33 => ?_)
      · refine ro_iconst (v := (nI 0)) F dX0_alike_70 (by decide) ?_
        exact Wd.sub (lv' := [(0, .ref (ad 0)), (1, .int sm), (2, .int (nI d)), (3, .int b5), (4, .int (nI i5)), (6, .int (nI i18))]) [0, 1, 2, 3, 4, 6] rfl <| Wd.to J71_33 rfl rfl (congrArg (fun z => ([Value.int z, .int b18] : List Value)) ((b2_f (by first | (simp [c33]; done) | (intro hh; obtain ⟨h1, h2⟩ := hh; first | exact absurd h1 (by assumption) | exact absurd h2 (by assumption)))).symm))
      · refine ro_iload_n F dX0_alike_36 1 rfl ?_
        refine ro_iload F dX0_alike_37 6 rfl ?_
        refine hq_cS (rest := [.int b18]) F hA (metX0_isIn_q (gx_l g) x M ad ds m sm (nI i18) ) cwX0_208 hdX0_isIn.2 rfl (Nat.le_of_ble_eq_true rfl) (Nat.le_of_ble_eq_true rfl) (by omega) (by omega) rfl (Nat.le_of_ble_eq_true rfl) dX0_alike_39 ?_
        refine ro_if_eqB (tgt := 70) F dX0_alike_42 (by decide) (fun c42 => ?_) (fun c42 => ?_)
        · refine ro_iconst (v := (nI 0)) F dX0_alike_70 (by decide) ?_
          exact Wd.sub (lv' := [(0, .ref (ad 0)), (1, .int sm), (2, .int (nI d)), (3, .int b5), (4, .int (nI i5)), (6, .int (nI i18))]) [0, 1, 2, 3, 4, 6] rfl <| Wd.to J71_33 rfl rfl (congrArg (fun z => ([Value.int z, .int b18] : List Value)) ((b2_f (by first | (simp [c33, c42]; done) | (intro hh; obtain ⟨h1, h2⟩ := hh; first | exact absurd h1 (by assumption) | exact absurd h2 (by assumption)))).symm))
        · refine ro_aload_n F dX0_alike_45 0 rfl ?_
          refine hq_getR F in_X0 (ci := 0) rfl 0 22 rfl (nhd (by decide)) (nhd (by decide)) 22 (by decide) qX0_87 (fun _ h => h) (Nat.le_of_ble_eq_true rfl) rfl dX0_alike_46 ?_
          refine ro_iload F dX0_alike_49 4 rfl ?_
          refine hq_ldAg F 22 10 rfl (by decide) (by decide) (by omega) dX0_alike_51 ?_
          refine ro_iload_n F dX0_alike_52 2 rfl ?_
          refine hq_ldG F (22 + 64 * (i5 + 1)) 20 (fix_22 (by omega)) (by omega) (by decide) (by omega) dX0_alike_53 rfl ?_
          refine ro_aload_n F dX0_alike_54 0 rfl ?_
          refine hq_getR F in_X0 (ci := 0) rfl 0 22 rfl (nhd (by decide)) (nhd (by decide)) 22 (by decide) qX0_87 (fun _ h => h) (Nat.le_of_ble_eq_true rfl) rfl dX0_alike_55 ?_
          refine ro_iload F dX0_alike_58 6 rfl ?_
          refine hq_ldAg F 22 10 rfl (by decide) (by decide) (by omega) dX0_alike_60 ?_
          refine ro_iload_n F dX0_alike_61 2 rfl ?_
          refine hq_ldG F (22 + 64 * (i18 + 1)) 20 (fix_22 (by omega)) (by omega) (by decide) (by omega) dX0_alike_62 rfl ?_
          refine ro_icmp_ne (tgt := 70) F dX0_alike_63 (by decide) (fun c63 => ?_) (fun c63 => ?_)
          · refine ro_iconst (v := (nI 0)) F dX0_alike_70 (by decide) ?_
            exact Wd.sub (lv' := [(0, .ref (ad 0)), (1, .int sm), (2, .int (nI d)), (3, .int b5), (4, .int (nI i5)), (6, .int (nI i18))]) [0, 1, 2, 3, 4, 6] rfl <| Wd.to J71_33 rfl rfl (congrArg (fun z => ([Value.int z, .int b18] : List Value)) ((b2_f (by first | (simp [c33, c42, c63]; done) | (intro hh; obtain ⟨h1, h2⟩ := hh; first | exact absurd h1 (by assumption) | exact absurd h2 (by assumption)))).symm))
          · refine ro_iconst (v := (nI 1)) F dX0_alike_66 (by decide) ?_
            refine ro_goto (tgt := 71) F dX0_alike_67 (by decide) ?_
            exact Wd.sub (lv' := [(0, .ref (ad 0)), (1, .int sm), (2, .int (nI d)), (3, .int b5), (4, .int (nI i5)), (6, .int (nI i18))]) [0, 1, 2, 3, 4, 6] rfl <| Wd.to J71_33 rfl rfl (congrArg (fun z => ([Value.int z, .int b18] : List Value)) ((b2_t (by first | (simp [c33, c42, c63]; done) | (refine ⟨?_, ?_⟩ <;> assumption))).symm))
    subst he18
    refine ro_iload F dX0_alike_18 6 rfl ?_
    refine ro_bipush (v := (nI 10)) F dX0_alike_20 (by decide) ?_
    refine ro_icmp_geN (tgt := 80) F dX0_alike_22 (by decide) (by omega) (by omega) (fun c22 => ?_) (fun c22 => absurd c22 (by omega))
    refine ro_iload F dX0_alike_80 5 rfl ?_
    refine ro_iload_n F dX0_alike_82 3 rfl ?_
    refine hq_cS (N := 2) (As := [.int (it (lX0_alike_q_18 sm d m i5) (nI 0) 10), .int b5]) (rest := []) F hA (metJ7_max (PicQ x M) (KC x) (hx_A x) _ (gx_l g) (it (lX0_alike_q_18 sm d m i5) (nI 0) 10) b5) cwX0_320 (by decide +kernel) rfl (Nat.le_of_ble_eq_true rfl) (Nat.le_of_ble_eq_true rfl) (by omega) (by omega) rfl (Nat.le_of_ble_eq_true rfl) dX0_alike_83 ?_
    refine ro_istore_n (lv' := [(0, .ref (ad 0)), (1, .int sm), (2, .int (nI d)), (3, .int (mx_m (it (lX0_alike_q_18 sm d m i5) (nI 0) 10) b5)), (4, .int (nI i5)), (5, .int (it (lX0_alike_q_18 sm d m i5) (nI 0) 10)), (6, .int (nI 10))]) F dX0_alike_86 (Nat.le_of_ble_eq_true rfl) [1, 2, 3, 0, 4, 5, 6] rfl ?_
    refine ro_iincN (z := 1) (lv' := [(0, .ref (ad 0)), (1, .int sm), (2, .int (nI d)), (3, .int (mx_m (it (lX0_alike_q_18 sm d m i5) (nI 0) 10) b5)), (4, .int (nI (i5 + 1))), (5, .int (it (lX0_alike_q_18 sm d m i5) (nI 0) 10)), (6, .int (nI 10))]) F dX0_alike_87 4 rfl (Nat.le_of_ble_eq_true rfl) [1, 2, 3, 4, 0, 5, 6] rfl ?_
    refine ro_goto (tgt := 5) F dX0_alike_90 (by decide) ?_
    exact Wd.sub (lv' := [(0, .ref (ad 0)), (1, .int sm), (2, .int (nI d)), (3, .int (mx_m (it (lX0_alike_q_18 sm d m i5) (nI 0) 10) b5)), (4, .int (nI (i5 + 1)))]) [0, 1, 2, 3, 4] rfl <| ih5
  subst he5
  refine ro_iload F dX0_alike_5 4 rfl ?_
  refine ro_bipush (v := (nI 10)) F dX0_alike_7 (by decide) ?_
  refine ro_icmp_geN (tgt := 93) F dX0_alike_9 (by decide) (by omega) (by omega) (fun c9 => ?_) (fun c9 => absurd c9 (by omega))
  refine ro_iload_n F dX0_alike_93 3 rfl ?_
  exact hret _ _ _ _ _ _ (by omega) (by omega) dX0_alike_94 rfl ⟨congrArg (fun z => some (Value.int z)) (rfl), rfl⟩
noncomputable def lX0_isSeen_q_8 (m : Mem) (i8 : Nat) (b8 : Int32) : Int32 := (if b8 = 0 then b8 else (b2 ((rX0_isSaver_f (m (21 + 64 * (i8 + 1)) 1) (fQ_find m)) ∧ (((fQ_find m) (6 + 64 * ((((m (21 + 64 * (i8 + 1)) 0)).toNatClampNeg) + 1)) (((m (21 + 64 * (i8 + 1)) 1)).toNatClampNeg)) = (m (21 + 64 * (i8 + 1)) 2)))))
noncomputable def rX0_isSeen_q (m : Mem) : Int32 := (it (lX0_isSeen_q_8 m) (nI 1) (nn m 21))
noncomputable def fX0_isSeen_q (m : Mem) : Mem := (fQ_find m)
theorem fr_fX0_isSeen_q (m : Mem) (f : Nat) (h0 : f % 64 ≠ 0) (h1 : f % 64 ≠ 1) (h2 : f % 64 ≠ 2) (h6 : f % 64 ≠ 6) (h7 : f % 64 ≠ 7) (h8 : f % 64 ≠ 8) (h9 : f % 64 ≠ 9) (h11 : f % 64 ≠ 11) : fX0_isSeen_q m f = m f := (fr_fQ_find  m f h0 h1 h2 h6 h7 h8 h9 h11).trans (rfl)
theorem fq_fX0_isSeen_q (m : Mem) (h_ : FrQ m) : FrQ (fX0_isSeen_q m) := (fQ_fr _)
set_option maxHeartbeats 4000000 in
set_option maxRecDepth 100000 in
theorem metX0_isSeen_q (l : Launch) (x : Hx) (M : Bool × Bool) (ad : Nat → Nat) (ds : Nat → Option Lay) (m : Mem) (c e : Nat)  (hc : FrQ m ∨ (18 ≤ c ∧ 114 ≤ e)) (hs : SeenOK m) : Cn l yX0_isSeen (ws_ yX0_isSeen cX0_isSeen 4 (some .boolean)) 15 (c + c) (e + e) [.ref (ad 0)] (PicQ x M) (KC x) (hx_A x) (ad, ds, m) (fun rv_ w_ => rv_ = some (.int (rX0_isSeen_q m)) ∧ w_ = (ad, ds, (fX0_isSeen_q m))) := by
  refine cn_i (own := RX0) rfl (Nat.le_of_ble_eq_true rfl) rfl (fun g hgl hA F hret => ?_)
  refine Wd.eql (lv' := [(0, .ref (ad 0))]) rfl ?_
  refine q_wf (fun hwf => ?_)
  obtain ⟨⟨hn0, lb0⟩, ⟨hn1, lb1⟩, ⟨hn2, lb2⟩, ⟨hn3, lb3⟩, ⟨hn4, lb4⟩⟩ := hwf
  refine ro_aload_n F dX0_isSeen_0 0 rfl ?_
  refine hq_cV (rest := []) F hA (metX0_find_q (gx_l g) x M ad ds m c e (hc.imp (fun z => z) id)) cwX0_276 hdX0_find rfl (Nat.le_of_ble_eq_true rfl) (Nat.le_of_ble_eq_true rfl) (by omega) (by omega) rfl (Nat.le_of_ble_eq_true rfl) dX0_isSeen_1 ?_
  refine ro_iconst (v := (nI 1)) F dX0_isSeen_4 (by decide) ?_
  refine ro_istore_n (lv' := [(0, .ref (ad 0)), (1, .int (nI 1))]) F dX0_isSeen_5 (Nat.le_of_ble_eq_true rfl) [1, 0] rfl ?_
  refine ro_iconst (v := (nI 0)) F dX0_isSeen_6 (by decide) ?_
  refine ro_istore_n (lv' := [(0, .ref (ad 0)), (1, .int (nI 1)), (2, .int (nI 0))]) F dX0_isSeen_7 (Nat.le_of_ble_eq_true rfl) [1, 2, 0] rfl ?_
  have EX8 : Wd (PicQ x M) g 4 (ad, ds, (fQ_find m)) (0 + (c + c)) (0 + (e + e)) 75 [(1, .int (it (lX0_isSeen_q_8 m) (nI 1) (nn m 21)))] [] := by
    refine ro_iload_n F dX0_isSeen_75 0 rfl ?_
    exact hret _ _ _ _ _ _ (by omega) (by omega) dX0_isSeen_76 (it_inv (P := fun z => narrow .boolean (.int z) = .int z) rfl (fun i b h => by unfold lX0_isSeen_q_8; split; exact h; exact b2_nar) _) ⟨congrArg (fun z => some (Value.int z)) (rfl), rfl⟩
  refine it_loop2 (nn m 21) (lX0_isSeen_q_8 m) (nI 1) (fun _ _ => True) (fun (i8 : Nat) (b8 : Int32) => Wd (PicQ x M) g 4 (ad, ds, (fQ_find m)) (0 + (c + c)) (0 + (e + e)) 8 [(0, .ref (ad 0)), (1, .int b8), (2, .int (nI i8))] []) trivial (fun _ _ _ _ => trivial) (fun i8 b8 hi8 hf8 hq8 ih8 => ?_) (fun b8 hf8 he8 => ?_)
  · refine ro_iload_n F dX0_isSeen_8 2 rfl ?_
    refine ro_aload_n F dX0_isSeen_9 0 rfl ?_
    refine hq_getR F in_X0 (ci := 0) rfl 0 21 rfl (nhd (by decide)) (nhd (by decide)) 21 (by decide) qX0_84 (fun _ h => h) (Nat.le_of_ble_eq_true rfl) rfl dX0_isSeen_10 ?_
    refine hq_size (len := 3) F hA (Or.inr (Or.inr ⟨rfl, rfl⟩)) cwX0_170 (Nat.le_of_ble_eq_true rfl) (by omega) (by omega) (Nat.le_of_ble_eq_true rfl) dX0_isSeen_13 ?_
    refine ro_eqi (y := nI (nn m 21)) (congrArg nI (nn_eq (fr_fQ_find  m 21 (by omega) (by omega) (by omega) (by omega) (by omega) (by omega) (by omega) (by omega)))) ?_
    refine ro_icmp_geN (tgt := 75) F dX0_isSeen_16 (by decide) (by omega) (by omega) (fun c16 => absurd c16 (by omega)) (fun c16 => ?_)
    refine ro_iload_n F dX0_isSeen_19 1 rfl ?_
    refine ro_if_eq (tgt := 75) F dX0_isSeen_20 (by decide) (fun c20 => ?_) (fun c20 => ?_)
    · exact Wd.sub (lv' := [(1, .int b8)]) [1] rfl <| Wd.to EX8 rfl (congrArg (fun z => ([(1, Value.int z)] : Lv)) (hq8.trans (it_stay (P := fun z => z = 0) (fun i z hz => by simp only [lX0_isSeen_q_8, if_pos hz]) (by rw [← hq8]; exact c20) (Nat.le_of_lt hi8)).symm)) rfl
    · refine ro_aload_n F dX0_isSeen_23 0 rfl ?_
      refine hq_getR F in_X0 (ci := 0) rfl 0 21 rfl (nhd (by decide)) (nhd (by decide)) 21 (by decide) qX0_84 (fun _ h => h) (Nat.le_of_ble_eq_true rfl) rfl dX0_isSeen_24 ?_
      refine ro_iload_n F dX0_isSeen_27 2 rfl ?_
      have hz28 : nn (fQ_find m) 21 = nn m 21 := nn_eq (fr_fQ_find  m 21 (by omega) (by omega) (by omega) (by omega) (by omega) (by omega) (by omega) (by omega))
      refine hq_lget (len := 3) F hA (Or.inr (Or.inr ⟨rfl, rfl⟩)) (by omega) cwX0_147 (Nat.le_of_ble_eq_true rfl) (by omega) (by omega) (Nat.le_of_ble_eq_true rfl) dX0_isSeen_28 ?_
      refine hq_castE (len := 3) F (Or.inr (Or.inr ⟨rfl, rfl⟩)) (by omega) q791 dX0_isSeen_31 ?_
      refine ro_astore_n (lv' := [(0, .ref (ad 0)), (1, .int b8), (2, .int (nI i8)), (3, .ref (ad (21 + 64 * (i8 + 1))))]) F dX0_isSeen_34 (Nat.le_of_ble_eq_true rfl) [1, 2, 3, 0] rfl ?_
      refine ro_aload_n F dX0_isSeen_35 0 rfl ?_
      refine ro_aload_n F dX0_isSeen_36 3 rfl ?_
      refine ro_iconst (v := (nI 1)) F dX0_isSeen_37 (by decide) ?_
      refine hq_ldE (len := 3) F (Or.inr (Or.inr ⟨rfl, rfl⟩)) (by omega) (by omega) dX0_isSeen_38 (congrFun (fr_fQ_find  m (21 + 64 * (i8 + 1)) (by omega) (by omega) (by omega) (by omega) (by omega) (by omega) (by omega) (by omega)) 1) ?_
      refine hq_cV (c' := 0) (e' := 0) (rest := []) F hA (metX0_isSaver_f (gx_l g) x M ad ds (fQ_find m) (m (21 + 64 * (i8 + 1)) 1) (fQ_fr _)) cwX0_139 hdX0_isSaver rfl (Nat.le_of_ble_eq_true rfl) (Nat.le_of_ble_eq_true rfl) (by omega) (by omega) rfl (Nat.le_of_ble_eq_true rfl) dX0_isSeen_39 ?_
      have J68_42 : Wd (PicQ x M) g 4 (ad, ds, (fQ_find m)) (0 + (c + c)) (0 + (e + e)) 68 [(0, .ref (ad 0)), (2, .int (nI i8))] [.int (b2 ((rX0_isSaver_f (m (21 + 64 * (i8 + 1)) 1) (fQ_find m)) ∧ (((fQ_find m) (6 + 64 * ((((m (21 + 64 * (i8 + 1)) 0)).toNatClampNeg) + 1)) (((m (21 + 64 * (i8 + 1)) 1)).toNatClampNeg)) = (m (21 + 64 * (i8 + 1)) 2))))] := by
        refine ro_istore_n (lv' := [(0, .ref (ad 0)), (1, .int (b2 ((rX0_isSaver_f (m (21 + 64 * (i8 + 1)) 1) (fQ_find m)) ∧ (((fQ_find m) (6 + 64 * ((((m (21 + 64 * (i8 + 1)) 0)).toNatClampNeg) + 1)) (((m (21 + 64 * (i8 + 1)) 1)).toNatClampNeg)) = (m (21 + 64 * (i8 + 1)) 2))))), (2, .int (nI i8))]) F dX0_isSeen_68 (Nat.le_of_ble_eq_true rfl) [1, 0, 2] rfl ?_
        refine ro_iincN (z := 1) (lv' := [(0, .ref (ad 0)), (1, .int (b2 ((rX0_isSaver_f (m (21 + 64 * (i8 + 1)) 1) (fQ_find m)) ∧ (((fQ_find m) (6 + 64 * ((((m (21 + 64 * (i8 + 1)) 0)).toNatClampNeg) + 1)) (((m (21 + 64 * (i8 + 1)) 1)).toNatClampNeg)) = (m (21 + 64 * (i8 + 1)) 2))))), (2, .int (nI (i8 + 1)))]) F dX0_isSeen_69 2 rfl (Nat.le_of_ble_eq_true rfl) [1, 2, 0] rfl ?_
        refine ro_goto (tgt := 8) F dX0_isSeen_72 (by decide) ?_
        exact Wd.to ih8 rfl ((congrArg (fun z => ([(0, .ref (ad 0)), (1, Value.int z), (2, .int (nI (i8 + 1)))] : Lv)) (by simp only [if_neg c20])).trans (congrArg (fun z => ([(0, .ref (ad 0)), (1, .int (if b8 = 0 then b8 else (b2 ((rX0_isSaver_f (m (21 + 64 * (i8 + 1)) 1) (fQ_find m)) ∧ (((fQ_find m) (6 + 64 * ((((m (21 + 64 * (i8 + 1)) 0)).toNatClampNeg) + 1)) (((m (21 + 64 * (i8 + 1)) 1)).toNatClampNeg)) = (m (21 + 64 * (i8 + 1)) 2)))))), (2, Value.int z)] : Lv)) (congrArg nI (by simp only [if_neg c20])))) rfl
      refine ro_if_eqB (tgt := 67) F dX0_isSeen_42 (by decide) (fun c42 => ?_) (fun c42 => ?_)
      · refine ro_iconst (v := (nI 0)) F dX0_isSeen_67 (by decide) ?_
        exact Wd.sub (lv' := [(0, .ref (ad 0)), (2, .int (nI i8))]) [0, 2] rfl <| Wd.to J68_42 rfl rfl (congrArg (fun z => ([Value.int z] : List Value)) ((b2_f (by first | (simp [c42]; done) | (intro hh; obtain ⟨h1, h2⟩ := hh; first | exact absurd h1 (by assumption) | exact absurd h2 (by assumption)))).symm))
      · refine ro_aload_n F dX0_isSeen_45 0 rfl ?_
        refine hq_getR F in_X0 (ci := 0) rfl 0 6 rfl (nhd (by decide)) (nhd (by decide)) 6 (by decide) qX0_43 (fun _ h => h) (Nat.le_of_ble_eq_true rfl) rfl dX0_isSeen_46 ?_
        refine ro_aload_n F dX0_isSeen_49 3 rfl ?_
        refine ro_iconst (v := (nI 0)) F dX0_isSeen_50 (by decide) ?_
        refine hq_ldE (len := 3) F (Or.inr (Or.inr ⟨rfl, rfl⟩)) (by omega) (by omega) dX0_isSeen_51 (congrFun (fr_fQ_find  m (21 + 64 * (i8 + 1)) (by omega) (by omega) (by omega) (by omega) (by omega) (by omega) (by omega) (by omega)) 0) ?_
        have hz51 := sn_0 hs (k := i8) (by omega)
        refine ro_eqi (y := nI (((m (21 + 64 * (i8 + 1)) 0)).toNatClampNeg)) hz51.1 ?_
        refine hq_ldAg F 6 20 rfl (by decide) (by decide) (by omega) dX0_isSeen_52 ?_
        refine ro_aload_n F dX0_isSeen_53 3 rfl ?_
        refine ro_iconst (v := (nI 1)) F dX0_isSeen_54 (by decide) ?_
        refine hq_ldE (len := 3) F (Or.inr (Or.inr ⟨rfl, rfl⟩)) (by omega) (by omega) dX0_isSeen_55 (congrFun (fr_fQ_find  m (21 + 64 * (i8 + 1)) (by omega) (by omega) (by omega) (by omega) (by omega) (by omega) (by omega) (by omega)) 1) ?_
        have hz55 := sn_1 hs (k := i8) (by omega)
        refine ro_eqi (y := nI (((m (21 + 64 * (i8 + 1)) 1)).toNatClampNeg)) hz55.1 ?_
        refine hq_ldG F (6 + 64 * ((((m (21 + 64 * (i8 + 1)) 0)).toNatClampNeg) + 1)) 8 (fix_6 (by omega)) (by omega) (by decide) (by omega) dX0_isSeen_56 rfl ?_
        refine ro_aload_n F dX0_isSeen_57 3 rfl ?_
        refine ro_iconst (v := (nI 2)) F dX0_isSeen_58 (by decide) ?_
        refine hq_ldE (len := 3) F (Or.inr (Or.inr ⟨rfl, rfl⟩)) (by omega) (by omega) dX0_isSeen_59 (congrFun (fr_fQ_find  m (21 + 64 * (i8 + 1)) (by omega) (by omega) (by omega) (by omega) (by omega) (by omega) (by omega) (by omega)) 2) ?_
        refine ro_icmp_ne (tgt := 67) F dX0_isSeen_60 (by decide) (fun c60 => ?_) (fun c60 => ?_)
        · refine ro_iconst (v := (nI 0)) F dX0_isSeen_67 (by decide) ?_
          exact Wd.sub (lv' := [(0, .ref (ad 0)), (2, .int (nI i8))]) [0, 2] rfl <| Wd.to J68_42 rfl rfl (congrArg (fun z => ([Value.int z] : List Value)) ((b2_f (by first | (simp [c42, c60]; done) | (intro hh; obtain ⟨h1, h2⟩ := hh; first | exact absurd h1 (by assumption) | exact absurd h2 (by assumption)))).symm))
        · refine ro_iconst (v := (nI 1)) F dX0_isSeen_63 (by decide) ?_
          refine ro_goto (tgt := 68) F dX0_isSeen_64 (by decide) ?_
          exact Wd.sub (lv' := [(0, .ref (ad 0)), (2, .int (nI i8))]) [0, 2] rfl <| Wd.to J68_42 rfl rfl (congrArg (fun z => ([Value.int z] : List Value)) ((b2_t (by first | (simp [c42, c60]; done) | (refine ⟨?_, ?_⟩ <;> assumption))).symm))
  subst he8
  refine ro_iload_n F dX0_isSeen_8 2 rfl ?_
  refine ro_aload_n F dX0_isSeen_9 0 rfl ?_
  refine hq_getR F in_X0 (ci := 0) rfl 0 21 rfl (nhd (by decide)) (nhd (by decide)) 21 (by decide) qX0_84 (fun _ h => h) (Nat.le_of_ble_eq_true rfl) rfl dX0_isSeen_10 ?_
  refine hq_size (len := 3) F hA (Or.inr (Or.inr ⟨rfl, rfl⟩)) cwX0_170 (Nat.le_of_ble_eq_true rfl) (by omega) (by omega) (Nat.le_of_ble_eq_true rfl) dX0_isSeen_13 ?_
  refine ro_eqi (y := nI (nn m 21)) (congrArg nI (nn_eq (fr_fQ_find  m 21 (by omega) (by omega) (by omega) (by omega) (by omega) (by omega) (by omega) (by omega)))) ?_
  refine ro_icmp_geN (tgt := 75) F dX0_isSeen_16 (by decide) (by omega) (by omega) (fun c16 => ?_) (fun c16 => absurd c16 (by omega))
  exact Wd.sub (lv' := [(1, .int (it (lX0_isSeen_q_8 m) (nI 1) (nn m 21)))]) [1] rfl EX8
