noncomputable def lX0_isCalled_59 (d : Nat) (k : Nat) (m : Mem) (i59 : Nat) (b59 : Int32) : Int32 := (b59 ||| (b2 (((m (4 + 64 * (i59 + 1)) 0) = (nI d)) ∧ (((m (4 + 64 * (i59 + 1)) 1) = (nI k)) ∧ (¬ ((((m 0 12) >>> ((nI i59) &&& 31)) &&& (nI 1)) = (nI 1)))))))
noncomputable def rX0_isCalled (d : Nat) (k : Nat) (nc : Nat) (m : Mem) : Int32 := (if (m 0 17) = (-1) then (if (nI k) = (m 0 14) then (b2 ((nI d) = (m 0 15))) else (it (lX0_isCalled_59 d k m) (nI 0) nc)) else (b2 (¬ ((m 0 17) ≤ (nI d)) ∧ ((m 16 d) = (nI k)))))
set_option maxHeartbeats 4000000 in
set_option maxRecDepth 100000 in
theorem metX0_isCalled (l : Launch) (x : Hx) (ad : Nat → Nat) (ds : Nat → Option Lay) (m : Mem) (d : Nat) (k : Nat) (ns : Nat) (np : Nat) (nc : Nat) (nw : Nat) (ne : Nat) (eB : Nat → Nat) (wy : Nat → Nat) (q : Nat → Nat) (N : Nat → Nat) (hD : DD ds ns np nc nw ne eB wy q N) (hn2 : m 4 2 = nI nc) (hd : d < 20) (hk : k < 8) : Cn l yX0_isCalled (ws_ yX0_isCalled cX0_isCalled 5 (some .boolean)) 5 0 0 [.ref (ad 0), .int (nI d), .int (nI k)] (PicH x) (KC x) (hx_A x) (ad, ds, m) (fun rv_ w_ => rv_ = some (.int (rX0_isCalled d k nc m)) ∧ w_ = (ad, ds, m)) := by
  refine cn_i (own := RX0) rfl (Nat.le_of_ble_eq_true rfl) rfl (fun g hgl hA F hret => ?_)
  refine Wd.eql (lv' := [(0, .ref (ad 0)), (1, .int (nI d)), (2, .int (nI k))]) rfl ?_
  have hD_ := hD
  obtain ⟨hds, ⟨hL0, hL1, hL2, hL3, hL4⟩, ⟨hS, hB, hC, hW, hE⟩, rB, hwy, lns, lnp, lnc, lnw, lne⟩ := hD_
  refine ro_aload_n F dX0_isCalled_0 0 rfl ?_
  refine hh_get F F.k.1 in_X0 (F.k.c rfl) 0 (hds 0 _ rfl) 17 (by decide) qX0_65 (fun _ h => h) (Nat.le_of_ble_eq_true rfl) (v := .int (m 0 17)) (congrArg Value.int rfl) dX0_isCalled_1 ?_
  refine ro_iconst (v := (-1)) F dX0_isCalled_4 (by decide) ?_
  refine ro_icmp_eq (tgt := 32) F dX0_isCalled_5 (by decide) (fun c5 => ?_) (fun c5 => ?_)
  · refine ro_iload_n F dX0_isCalled_32 2 rfl ?_
    refine ro_aload_n F dX0_isCalled_33 0 rfl ?_
    refine hh_get F F.k.1 in_X0 (F.k.c rfl) 0 (hds 0 _ rfl) 14 (by decide) qX0_58 (fun _ h => h) (Nat.le_of_ble_eq_true rfl) (v := .int (m 0 14)) (congrArg Value.int rfl) dX0_isCalled_34 ?_
    refine ro_icmp_ne (tgt := 54) F dX0_isCalled_37 (by decide) (fun c37 => ?_) (fun c37 => ?_)
    · refine ro_iconst (v := (nI 0)) F dX0_isCalled_54 (by decide) ?_
      refine ro_istore_n (lv' := [(0, .ref (ad 0)), (1, .int (nI d)), (2, .int (nI k)), (3, .int (nI 0))]) F dX0_isCalled_55 (Nat.le_of_ble_eq_true rfl) [1, 2, 3, 0] rfl ?_
      refine ro_iconst (v := (nI 0)) F dX0_isCalled_56 (by decide) ?_
      refine ro_istore (lv' := [(0, .ref (ad 0)), (1, .int (nI d)), (2, .int (nI k)), (3, .int (nI 0)), (4, .int (nI 0))]) F dX0_isCalled_57 (Nat.le_of_ble_eq_true rfl) [1, 2, 3, 4, 0] rfl ?_
      refine it_loop nc (lX0_isCalled_59 d k m) (nI 0) (fun _ _ => True) (fun (i59 : Nat) (b59 : Int32) => Wd (PicH x) g 5 (ad, ds, m) 0 0 59 [(0, .ref (ad 0)), (1, .int (nI d)), (2, .int (nI k)), (3, .int b59), (4, .int (nI i59))] []) trivial (fun _ _ _ _ => trivial) (fun i59 b59 hi59 hf59 ih59 => ?_) (fun b59 hf59 he59 => ?_)
      · refine ro_iload F dX0_isCalled_59 4 rfl ?_
        refine ro_aload_n F dX0_isCalled_61 0 rfl ?_
        refine hh_get F F.k.1 in_X0 (F.k.c rfl) 0 (hds 0 _ rfl) 4 (by decide) qX0_34 (fun _ h => h) (Nat.le_of_ble_eq_true rfl) (v := .ref (ad 4)) rfl dX0_isCalled_62 ?_
        refine cl_size F hA hL2 hn2 cwX0_170 (Nat.le_of_ble_eq_true rfl) (Nat.le_refl _) (Nat.le_refl _) (Nat.le_of_ble_eq_true rfl) dX0_isCalled_65 ?_
        refine ro_icmp_geN (tgt := 133) F dX0_isCalled_68 (by decide) (by omega) (by omega) (fun c68 => absurd c68 (by omega)) (fun c68 => ?_)
        refine ro_iload_n F dX0_isCalled_71 3 rfl ?_
        refine ro_aload_n F dX0_isCalled_72 0 rfl ?_
        refine hh_get F F.k.1 in_X0 (F.k.c rfl) 0 (hds 0 _ rfl) 4 (by decide) qX0_34 (fun _ h => h) (Nat.le_of_ble_eq_true rfl) (v := .ref (ad 4)) rfl dX0_isCalled_73 ?_
        refine ro_iload F dX0_isCalled_76 4 rfl ?_
        refine cl_get F hA hL2 hn2 (by omega) cwX0_147 (Nat.le_of_ble_eq_true rfl) (Nat.le_refl _) (Nat.le_refl _) (Nat.le_of_ble_eq_true rfl) dX0_isCalled_78 ?_
        refine cc_castI F (p := (4 + 64 * (i59 + 1))) (hC i59 (by omega)) q791 dX0_isCalled_81 ?_
        refine ro_iconst (v := (nI 0)) F dX0_isCalled_84 (by decide) ?_
        refine hh_ldI F F.k.1 (4 + 64 * (i59 + 1)) 2 (hC i59 (by omega)) (by decide) (by omega) dX0_isCalled_85 rfl ?_
        refine ro_iload_n F dX0_isCalled_86 1 rfl ?_
        have J125_87 : Wd (PicH x) g 5 (ad, ds, m) 0 0 125 [(0, .ref (ad 0)), (1, .int (nI d)), (2, .int (nI k)), (4, .int (nI i59))] [.int (b2 (((m (4 + 64 * (i59 + 1)) 0) = (nI d)) ∧ (((m (4 + 64 * (i59 + 1)) 1) = (nI k)) ∧ (¬ ((((m 0 12) >>> ((nI i59) &&& 31)) &&& (nI 1)) = (nI 1)))))), .int b59] := by
          refine ro_ior F dX0_isCalled_125 ?_
          refine ro_istore_n (lv' := [(0, .ref (ad 0)), (1, .int (nI d)), (2, .int (nI k)), (3, .int (b59 ||| (b2 (((m (4 + 64 * (i59 + 1)) 0) = (nI d)) ∧ (((m (4 + 64 * (i59 + 1)) 1) = (nI k)) ∧ (¬ ((((m 0 12) >>> ((nI i59) &&& 31)) &&& (nI 1)) = (nI 1)))))))), (4, .int (nI i59))]) F dX0_isCalled_126 (Nat.le_of_ble_eq_true rfl) [1, 2, 3, 0, 4] rfl ?_
          refine ro_iincN (z := 1) (lv' := [(0, .ref (ad 0)), (1, .int (nI d)), (2, .int (nI k)), (3, .int (b59 ||| (b2 (((m (4 + 64 * (i59 + 1)) 0) = (nI d)) ∧ (((m (4 + 64 * (i59 + 1)) 1) = (nI k)) ∧ (¬ ((((m 0 12) >>> ((nI i59) &&& 31)) &&& (nI 1)) = (nI 1)))))))), (4, .int (nI (i59 + 1)))]) F dX0_isCalled_127 4 rfl (Nat.le_of_ble_eq_true rfl) [1, 2, 3, 4, 0] rfl ?_
          refine ro_goto (tgt := 59) F dX0_isCalled_130 (by decide) ?_
          exact ih59
        refine ro_icmp_ne (tgt := 124) F dX0_isCalled_87 (by decide) (fun c87 => ?_) (fun c87 => ?_)
        · refine ro_iconst (v := (nI 0)) F dX0_isCalled_124 (by decide) ?_
          exact Wd.sub (lv' := [(0, .ref (ad 0)), (1, .int (nI d)), (2, .int (nI k)), (4, .int (nI i59))]) [0, 1, 2, 4] rfl <| Wd.to J125_87 rfl rfl (congrArg (fun z => ([Value.int z, .int b59] : List Value)) ((b2_f (by simp [c87])).symm))
        · refine ro_aload_n F dX0_isCalled_90 0 rfl ?_
          refine hh_get F F.k.1 in_X0 (F.k.c rfl) 0 (hds 0 _ rfl) 4 (by decide) qX0_34 (fun _ h => h) (Nat.le_of_ble_eq_true rfl) (v := .ref (ad 4)) rfl dX0_isCalled_91 ?_
          refine ro_iload F dX0_isCalled_94 4 rfl ?_
          refine cl_get F hA hL2 hn2 (by omega) cwX0_147 (Nat.le_of_ble_eq_true rfl) (Nat.le_refl _) (Nat.le_refl _) (Nat.le_of_ble_eq_true rfl) dX0_isCalled_96 ?_
          refine cc_castI F (p := (4 + 64 * (i59 + 1))) (hC i59 (by omega)) q791 dX0_isCalled_99 ?_
          refine ro_iconst (v := (nI 1)) F dX0_isCalled_102 (by decide) ?_
          refine hh_ldI F F.k.1 (4 + 64 * (i59 + 1)) 2 (hC i59 (by omega)) (by decide) (by omega) dX0_isCalled_103 rfl ?_
          refine ro_iload_n F dX0_isCalled_104 2 rfl ?_
          refine ro_icmp_ne (tgt := 124) F dX0_isCalled_105 (by decide) (fun c105 => ?_) (fun c105 => ?_)
          · refine ro_iconst (v := (nI 0)) F dX0_isCalled_124 (by decide) ?_
            exact Wd.sub (lv' := [(0, .ref (ad 0)), (1, .int (nI d)), (2, .int (nI k)), (4, .int (nI i59))]) [0, 1, 2, 4] rfl <| Wd.to J125_87 rfl rfl (congrArg (fun z => ([Value.int z, .int b59] : List Value)) ((b2_f (by simp [c87, c105])).symm))
          · refine ro_aload_n F dX0_isCalled_108 0 rfl ?_
            refine hh_get F F.k.1 in_X0 (F.k.c rfl) 0 (hds 0 _ rfl) 12 (by decide) qX0_215 (fun _ h => h) (Nat.le_of_ble_eq_true rfl) (v := .int (m 0 12)) (congrArg Value.int rfl) dX0_isCalled_109 ?_
            refine ro_iload F dX0_isCalled_112 4 rfl ?_
            refine co_cS (rest := [.int b59]) F hA (metX0_isIn (gx_l g) x ad ds m (m 0 12) (nI i59) ) cwX0_208 hdX0_isIn.2 rfl (Nat.le_of_ble_eq_true rfl) (Nat.le_of_ble_eq_true rfl) (Nat.le_refl _) (Nat.le_refl _) rfl (Nat.le_of_ble_eq_true rfl) dX0_isCalled_114 ?_
            refine ro_if_neB (tgt := 124) F dX0_isCalled_117 (by decide) (fun c117 => ?_) (fun c117 => ?_)
            · refine ro_iconst (v := (nI 0)) F dX0_isCalled_124 (by decide) ?_
              exact Wd.sub (lv' := [(0, .ref (ad 0)), (1, .int (nI d)), (2, .int (nI k)), (4, .int (nI i59))]) [0, 1, 2, 4] rfl <| Wd.to J125_87 rfl rfl (congrArg (fun z => ([Value.int z, .int b59] : List Value)) ((b2_f (by simp [c87, c105, c117])).symm))
            · refine ro_iconst (v := (nI 1)) F dX0_isCalled_120 (by decide) ?_
              refine ro_goto (tgt := 125) F dX0_isCalled_121 (by decide) ?_
              exact Wd.sub (lv' := [(0, .ref (ad 0)), (1, .int (nI d)), (2, .int (nI k)), (4, .int (nI i59))]) [0, 1, 2, 4] rfl <| Wd.to J125_87 rfl rfl (congrArg (fun z => ([Value.int z, .int b59] : List Value)) ((b2_t (by simp [c87, c105, c117])).symm))
      subst he59
      refine ro_iload F dX0_isCalled_59 4 rfl ?_
      refine ro_aload_n F dX0_isCalled_61 0 rfl ?_
      refine hh_get F F.k.1 in_X0 (F.k.c rfl) 0 (hds 0 _ rfl) 4 (by decide) qX0_34 (fun _ h => h) (Nat.le_of_ble_eq_true rfl) (v := .ref (ad 4)) rfl dX0_isCalled_62 ?_
      refine cl_size F hA hL2 hn2 cwX0_170 (Nat.le_of_ble_eq_true rfl) (Nat.le_refl _) (Nat.le_refl _) (Nat.le_of_ble_eq_true rfl) dX0_isCalled_65 ?_
      refine ro_icmp_geN (tgt := 133) F dX0_isCalled_68 (by decide) (by omega) (by omega) (fun c68 => ?_) (fun c68 => absurd c68 (by omega))
      refine ro_iload_n F dX0_isCalled_133 3 rfl ?_
      exact hret _ _ _ _ _ _ (Nat.le_refl _) (Nat.le_refl _) dX0_isCalled_134 (nar01 (it_inv (P := fun z => z = 0 ∨ z = 1) (Or.inl rfl) (fun _ _ h => or01 h) _)) ⟨congrArg (fun z => some (Value.int z)) (by simp only [rX0_isCalled, if_pos c5, if_neg c37]), rfl⟩
    · refine ro_iload_n F dX0_isCalled_40 1 rfl ?_
      refine ro_aload_n F dX0_isCalled_41 0 rfl ?_
      refine hh_get F F.k.1 in_X0 (F.k.c rfl) 0 (hds 0 _ rfl) 15 (by decide) qX0_212 (fun _ h => h) (Nat.le_of_ble_eq_true rfl) (v := .int (m 0 15)) (congrArg Value.int rfl) dX0_isCalled_42 ?_
      have J53_45 : Wd (PicH x) g 5 (ad, ds, m) 0 0 53 [] [.int (b2 ((nI d) = (m 0 15)))] := by
        exact hret _ _ _ _ _ _ (Nat.le_refl _) (Nat.le_refl _) dX0_isCalled_53 b2_nar ⟨congrArg (fun z => some (Value.int z)) (by simp only [rX0_isCalled, if_pos c5, if_pos c37]), rfl⟩
      refine ro_icmp_ne (tgt := 52) F dX0_isCalled_45 (by decide) (fun c45 => ?_) (fun c45 => ?_)
      · refine ro_iconst (v := (nI 0)) F dX0_isCalled_52 (by decide) ?_
        exact Wd.sub (lv' := []) [] rfl <| Wd.to J53_45 rfl rfl (congrArg (fun z => ([Value.int z] : List Value)) ((b2_f (by simp [c45])).symm))
      · refine ro_iconst (v := (nI 1)) F dX0_isCalled_48 (by decide) ?_
        refine ro_goto (tgt := 53) F dX0_isCalled_49 (by decide) ?_
        exact Wd.sub (lv' := []) [] rfl <| Wd.to J53_45 rfl rfl (congrArg (fun z => ([Value.int z] : List Value)) ((b2_t (by simp [c45])).symm))
  · refine ro_iload_n F dX0_isCalled_8 1 rfl ?_
    refine ro_aload_n F dX0_isCalled_9 0 rfl ?_
    refine hh_get F F.k.1 in_X0 (F.k.c rfl) 0 (hds 0 _ rfl) 17 (by decide) qX0_65 (fun _ h => h) (Nat.le_of_ble_eq_true rfl) (v := .int (m 0 17)) (congrArg Value.int rfl) dX0_isCalled_10 ?_
    have J31_13 : Wd (PicH x) g 5 (ad, ds, m) 0 0 31 [] [.int (b2 (¬ ((m 0 17) ≤ (nI d)) ∧ ((m 16 d) = (nI k))))] := by
      exact hret _ _ _ _ _ _ (Nat.le_refl _) (Nat.le_refl _) dX0_isCalled_31 b2_nar ⟨congrArg (fun z => some (Value.int z)) (by simp only [rX0_isCalled, if_neg c5]), rfl⟩
    refine ro_icmp_ge (tgt := 30) F dX0_isCalled_13 (by decide) (fun c13 => ?_) (fun c13 => ?_)
    · refine ro_iconst (v := (nI 0)) F dX0_isCalled_30 (by decide) ?_
      exact Wd.sub (lv' := []) [] rfl <| Wd.to J31_13 rfl rfl (congrArg (fun z => ([Value.int z] : List Value)) ((b2_f (by simp [c13])).symm))
    · refine ro_aload_n F dX0_isCalled_16 0 rfl ?_
      refine hh_get F F.k.1 in_X0 (F.k.c rfl) 0 (hds 0 _ rfl) 16 (by decide) qX0_62 (fun _ h => h) (Nat.le_of_ble_eq_true rfl) (v := .ref (ad 16)) rfl dX0_isCalled_17 ?_
      refine ro_iload_n F dX0_isCalled_20 1 rfl ?_
      refine hh_ldI F F.k.1 16 20 (hds 16 _ rfl) (by decide) (by omega) dX0_isCalled_21 rfl ?_
      refine ro_iload_n F dX0_isCalled_22 2 rfl ?_
      refine ro_icmp_ne (tgt := 30) F dX0_isCalled_23 (by decide) (fun c23 => ?_) (fun c23 => ?_)
      · refine ro_iconst (v := (nI 0)) F dX0_isCalled_30 (by decide) ?_
        exact Wd.sub (lv' := []) [] rfl <| Wd.to J31_13 rfl rfl (congrArg (fun z => ([Value.int z] : List Value)) ((b2_f (by simp [c13, c23])).symm))
      · refine ro_iconst (v := (nI 1)) F dX0_isCalled_26 (by decide) ?_
        refine ro_goto (tgt := 31) F dX0_isCalled_27 (by decide) ?_
        exact Wd.sub (lv' := []) [] rfl <| Wd.to J31_13 rfl rfl (congrArg (fun z => ([Value.int z] : List Value)) ((b2_t (by simp [c13, c23])).symm))
noncomputable def lX0_hearsAll_21 (d : Nat) (k : Nat) (eB : Nat → Nat) (m : Mem) (i21 : Nat) (b21 : Mem) : Mem := (if (m (eB i21) 1) = (m (32 + 64 * (k + 1)) 2) then (fX0_hears d k i21 61 b21) else b21)
theorem fr_lX0_hearsAll_21 (d : Nat) (k : Nat) (eB : Nat → Nat) (m : Mem) (i21 : Nat) (b21 : Mem) (f : Nat) (h6 : f % 64 ≠ 6) (h7 : f % 64 ≠ 7) (h9 : f % 64 ≠ 9) : lX0_hearsAll_21 d k eB m i21 b21 f = b21 f := ite_fr ((fr_fX0_hears d k i21 61 b21 f h6 h7 h9).trans (rfl)) (rfl)
theorem fi_lX0_hearsAll_21 (d : Nat) (k : Nat) (eB : Nat → Nat) (m : Mem) (b21 : Mem) (n_ : Nat) (f : Nat) (h6 : f % 64 ≠ 6) (h7 : f % 64 ≠ 7) (h9 : f % 64 ≠ 9) : (it (lX0_hearsAll_21 d k eB m) b21 n_) f = b21 f := it_fr (fun i_ b_ => fr_lX0_hearsAll_21 d k eB m i_ b_ f h6 h7 h9) n_
noncomputable def lX0_hearsAll_79 (d : Nat) (k : Nat) (eB : Nat → Nat) (m : Mem) (i79 : Nat) (b79 : Mem) : Mem := (if (m (eB i79) 1) = (m (32 + 64 * (k + 1)) 2) then b79 else (if (rX0_hears d k i79 62 b79) = 0 then (m2 (fX0_hears d k i79 62 b79) (8 + 64 * (d + 1)) k ((b79 (8 + 64 * (d + 1)) k) + (rX0_hears d k i79 62 b79))) else (if (b79 11 0) = (-1) then (m2 (m2 (m2 (fX0_hears d k i79 62 b79) (8 + 64 * (d + 1)) k ((b79 (8 + 64 * (d + 1)) k) + (rX0_hears d k i79 62 b79))) 11 0 (nI d)) 11 1 (nI k)) else (m2 (fX0_hears d k i79 62 b79) (8 + 64 * (d + 1)) k ((b79 (8 + 64 * (d + 1)) k) + (rX0_hears d k i79 62 b79))))))
theorem fr_lX0_hearsAll_79 (d : Nat) (k : Nat) (eB : Nat → Nat) (m : Mem) (i79 : Nat) (b79 : Mem) (f : Nat) (h6 : f % 64 ≠ 6) (h7 : f % 64 ≠ 7) (h8 : f % 64 ≠ 8) (h9 : f % 64 ≠ 9) (h11 : f % 64 ≠ 11) : lX0_hearsAll_79 d k eB m i79 b79 f = b79 f := ite_fr (rfl) (ite_fr ((m2_ff _ _ (by omega)).trans ((fr_fX0_hears d k i79 62 b79 f h6 h7 h9).trans (rfl))) (ite_fr ((m2_ff _ _ (by omega)).trans ((m2_ff _ _ (by omega)).trans ((m2_ff _ _ (by omega)).trans ((fr_fX0_hears d k i79 62 b79 f h6 h7 h9).trans (rfl))))) ((m2_ff _ _ (by omega)).trans ((fr_fX0_hears d k i79 62 b79 f h6 h7 h9).trans (rfl)))))
theorem fi_lX0_hearsAll_79 (d : Nat) (k : Nat) (eB : Nat → Nat) (m : Mem) (b79 : Mem) (n_ : Nat) (f : Nat) (h6 : f % 64 ≠ 6) (h7 : f % 64 ≠ 7) (h8 : f % 64 ≠ 8) (h9 : f % 64 ≠ 9) (h11 : f % 64 ≠ 11) : (it (lX0_hearsAll_79 d k eB m) b79 n_) f = b79 f := it_fr (fun i_ b_ => fr_lX0_hearsAll_79 d k eB m i_ b_ f h6 h7 h8 h9 h11) n_
noncomputable def fX0_hearsAll (d : Nat) (k : Nat) (np : Nat) (eB : Nat → Nat) (m : Mem) : Mem := (it (lX0_hearsAll_79 d k eB m) (it (lX0_hearsAll_21 d k eB m) m np) np)
theorem fr_fX0_hearsAll (d : Nat) (k : Nat) (np : Nat) (eB : Nat → Nat) (m : Mem) (f : Nat) (h6 : f % 64 ≠ 6) (h7 : f % 64 ≠ 7) (h8 : f % 64 ≠ 8) (h9 : f % 64 ≠ 9) (h11 : f % 64 ≠ 11) : fX0_hearsAll d k np eB m f = m f := (fi_lX0_hearsAll_79 d k eB m (it (lX0_hearsAll_21 d k eB m) m np) np f h6 h7 h8 h9 h11).trans ((fi_lX0_hearsAll_21 d k eB m m np f h6 h7 h9).trans (rfl))
set_option maxHeartbeats 4000000 in
set_option maxRecDepth 100000 in
theorem metX0_hearsAll (l : Launch) (x : Hx) (ad : Nat → Nat) (ds : Nat → Option Lay) (m : Mem) (d : Nat) (k : Nat) (ns : Nat) (np : Nat) (nc : Nat) (nw : Nat) (ne : Nat) (eB : Nat → Nat) (wy : Nat → Nat) (q : Nat → Nat) (N : Nat → Nat) (hD : DD ds ns np nc nw ne eB wy q N) (hn0 : m 32 2 = nI ns) (hn1 : m 42 2 = nI np) (hd : d < 20) (hk : k < ns) : Cn l yX0_hearsAll (ws_ yX0_hearsAll cX0_hearsAll 6 none) 6 0 0 [.ref (ad 0), .int (nI d), .int (nI k)] (PicH x) (KC x) (hx_A x) (ad, ds, m) (fun rv_ w_ => rv_ = none ∧ w_ = (ad, ds, (fX0_hearsAll d k np eB m))) := by
  refine cn_v (own := RX0) rfl (Nat.le_of_ble_eq_true rfl) rfl (fun g hgl hA F hret => ?_)
  refine Wd.eql (lv' := [(0, .ref (ad 0)), (1, .int (nI d)), (2, .int (nI k))]) rfl ?_
  have hD_ := hD
  obtain ⟨hds, ⟨hL0, hL1, hL2, hL3, hL4⟩, ⟨hS, hB, hC, hW, hE⟩, rB, hwy, lns, lnp, lnc, lnw, lne⟩ := hD_
  refine ro_aload_n F dX0_hearsAll_0 0 rfl ?_
  refine hh_get F F.k.1 in_X0 (F.k.c rfl) 0 (hds 0 _ rfl) 1 (by decide) qX0_14 (fun _ h => h) (Nat.le_of_ble_eq_true rfl) (v := .ref (ad 1)) rfl dX0_hearsAll_1 ?_
  refine hh_get F F.k.1 in_X2 (F.k.c rfl) 1 (hds 1 _ rfl) 6 (by decide) qX0_144 (u_same (F.ts _ q160)) (Nat.le_of_ble_eq_true rfl) (v := .ref (ad 32)) rfl dX0_hearsAll_4 ?_
  refine ro_iload_n F dX0_hearsAll_7 2 rfl ?_
  refine cl_get F hA hL0 hn0 (by omega) cwX0_147 (Nat.le_of_ble_eq_true rfl) (Nat.le_refl _) (Nat.le_refl _) (Nat.le_of_ble_eq_true rfl) dX0_hearsAll_8 ?_
  refine cc_cast F (p := (32 + 64 * (k + 1))) (hS k (by omega)) (ci := 5) rfl q682 dX0_hearsAll_11 ?_
  refine hh_getN F F.k.1 in_X8 (F.k.c rfl) (32 + 64 * (k + 1)) (hS k (by omega)) 2 (by decide) F.k.2.2.1.2.2.1 (fun _ h => h) (Nat.le_of_ble_eq_true rfl) (v := .int (m (32 + 64 * (k + 1)) 2)) (congrArg Value.int rfl) dX0_hearsAll_14 ?_
  refine ro_istore_n (lv' := [(0, .ref (ad 0)), (1, .int (nI d)), (2, .int (nI k)), (3, .int (m (32 + 64 * (k + 1)) 2))]) F dX0_hearsAll_17 (Nat.le_of_ble_eq_true rfl) [1, 2, 3, 0] rfl ?_
  refine ro_iconst (v := (nI 0)) F dX0_hearsAll_18 (by decide) ?_
  refine ro_istore (lv' := [(0, .ref (ad 0)), (1, .int (nI d)), (2, .int (nI k)), (3, .int (m (32 + 64 * (k + 1)) 2)), (4, .int (nI 0))]) F dX0_hearsAll_19 (Nat.le_of_ble_eq_true rfl) [1, 2, 3, 4, 0] rfl ?_
  refine it_loop np (lX0_hearsAll_21 d k eB m) m (fun (_ : Nat) (b21 : Mem) => ∀ f : Nat, f % 64 ≠ 6 → f % 64 ≠ 7 → f % 64 ≠ 9 → b21 f = m f) (fun (i21 : Nat) (b21 : Mem) => Wd (PicH x) g 6 (ad, ds, b21) 0 0 21 [(0, .ref (ad 0)), (1, .int (nI d)), (2, .int (nI k)), (3, .int (m (32 + 64 * (k + 1)) 2)), (4, .int (nI i21))] []) (fun f _ _ _ => rfl) (fun i_ b_ _ hb f h6 h7 h9 => (fr_lX0_hearsAll_21 d k eB m i_ b_ f h6 h7 h9).trans (hb f h6 h7 h9)) (fun i21 b21 hi21 hf21 ih21 => ?_) (fun b21 hf21 he21 => ?_)
  · refine ro_iload F dX0_hearsAll_21 4 rfl ?_
    refine ro_aload_n F dX0_hearsAll_23 0 rfl ?_
    refine hh_get F F.k.1 in_X0 (F.k.c rfl) 0 (hds 0 _ rfl) 2 (by decide) qX0_23 (fun _ h => h) (Nat.le_of_ble_eq_true rfl) (v := .ref (ad 2)) rfl dX0_hearsAll_24 ?_
    refine hh_get F F.k.1 in_X3 (F.k.c rfl) 2 (hds 2 _ rfl) 6 (by decide) qX0_159 (u_same (F.ts _ q162)) (Nat.le_of_ble_eq_true rfl) (v := .ref (ad 42)) rfl dX0_hearsAll_27 ?_
    refine cl_size F hA hL1 ((congrFun (hf21 42 (by omega) (by omega) (by omega)) 2).trans (hn1)) cwX0_170 (Nat.le_of_ble_eq_true rfl) (Nat.le_refl _) (Nat.le_refl _) (Nat.le_of_ble_eq_true rfl) dX0_hearsAll_30 ?_
    refine ro_icmp_geN (tgt := 76) F dX0_hearsAll_33 (by decide) (by omega) (by omega) (fun c33 => absurd c33 (by omega)) (fun c33 => ?_)
    refine ro_aload_n F dX0_hearsAll_36 0 rfl ?_
    refine hh_get F F.k.1 in_X0 (F.k.c rfl) 0 (hds 0 _ rfl) 2 (by decide) qX0_23 (fun _ h => h) (Nat.le_of_ble_eq_true rfl) (v := .ref (ad 2)) rfl dX0_hearsAll_37 ?_
    refine hh_get F F.k.1 in_X3 (F.k.c rfl) 2 (hds 2 _ rfl) 6 (by decide) qX0_159 (u_same (F.ts _ q162)) (Nat.le_of_ble_eq_true rfl) (v := .ref (ad 42)) rfl dX0_hearsAll_40 ?_
    refine ro_iload F dX0_hearsAll_43 4 rfl ?_
    have hz := rB i21
    refine cl_get F hA hL1 ((congrFun (hf21 42 (by omega) (by omega) (by omega)) 2).trans (hn1)) (by omega) cwX0_147 (Nat.le_of_ble_eq_true rfl) (Nat.le_refl _) (Nat.le_refl _) (Nat.le_of_ble_eq_true rfl) dX0_hearsAll_45 ?_
    refine cc_cast F (p := (eB i21)) (hB i21 (by omega)) (ci := 4) rfl q197 dX0_hearsAll_48 ?_
    refine hh_getN F F.k.1 in_X4 (F.k.c rfl) (eB i21) (hB i21 (by omega)) 1 (by decide) F.k.2.2.1.2.2.2.1 (fun _ h => h) (Nat.le_of_ble_eq_true rfl) (v := .int (m (eB i21) 1)) (congrArg Value.int (congrFun (hf21 (eB i21) (by omega) (by omega) (by omega)) 1)) dX0_hearsAll_51 ?_
    refine ro_iload_n F dX0_hearsAll_54 3 rfl ?_
    have J70_55 : Wd (PicH x) g 6 (ad, ds, (if (m (eB i21) 1) = (m (32 + 64 * (k + 1)) 2) then (fX0_hears d k i21 61 b21) else b21)) 0 0 70 [(0, .ref (ad 0)), (1, .int (nI d)), (2, .int (nI k)), (3, .int (m (32 + 64 * (k + 1)) 2)), (4, .int (nI i21))] [] := by
      refine ro_iincN (z := 1) (lv' := [(0, .ref (ad 0)), (1, .int (nI d)), (2, .int (nI k)), (3, .int (m (32 + 64 * (k + 1)) 2)), (4, .int (nI (i21 + 1)))]) F dX0_hearsAll_70 4 rfl (Nat.le_of_ble_eq_true rfl) [1, 2, 3, 4, 0] rfl ?_
      refine ro_goto (tgt := 21) F dX0_hearsAll_73 (by decide) ?_
      exact ih21
    refine ro_icmp_ne (tgt := 70) F dX0_hearsAll_55 (by decide) (fun c55 => ?_) (fun c55 => ?_)
    · exact Wd.to J70_55 (by simp only [if_neg c55]) rfl rfl
    · refine ro_aload_n F dX0_hearsAll_58 0 rfl ?_
      refine ro_iload_n F dX0_hearsAll_59 1 rfl ?_
      refine ro_iload_n F dX0_hearsAll_60 2 rfl ?_
      refine ro_iload F dX0_hearsAll_61 4 rfl ?_
      refine cc_gets F hA (q := 61) F.k.2.2.2.1.2.1 (by decide) qX0_242 dX0_hearsAll_63 ?_
      refine co_cV (rest := []) F hA hds (metX0_hears (gx_l g) x ad ds b21 d k i21 61 ns np nc nw ne eB wy q N hD (by omega) (by omega) (by omega) (by decide)) cwX0_246 hdX0_hears rfl (Nat.le_of_ble_eq_true rfl) (Nat.le_of_ble_eq_true rfl) (Nat.le_refl _) (Nat.le_refl _) rfl (Nat.le_of_ble_eq_true rfl) dX0_hearsAll_66 ?_
      refine ro_pop F dX0_hearsAll_69 rfl ?_
      exact Wd.to J70_55 (by simp only [if_pos c55]) rfl rfl
  subst he21
  refine ro_iload F dX0_hearsAll_21 4 rfl ?_
  refine ro_aload_n F dX0_hearsAll_23 0 rfl ?_
  refine hh_get F F.k.1 in_X0 (F.k.c rfl) 0 (hds 0 _ rfl) 2 (by decide) qX0_23 (fun _ h => h) (Nat.le_of_ble_eq_true rfl) (v := .ref (ad 2)) rfl dX0_hearsAll_24 ?_
  refine hh_get F F.k.1 in_X3 (F.k.c rfl) 2 (hds 2 _ rfl) 6 (by decide) qX0_159 (u_same (F.ts _ q162)) (Nat.le_of_ble_eq_true rfl) (v := .ref (ad 42)) rfl dX0_hearsAll_27 ?_
  refine cl_size F hA hL1 ((congrFun (fi_lX0_hearsAll_21 d k eB m m np 42 (by omega) (by omega) (by omega)) 2).trans (hn1)) cwX0_170 (Nat.le_of_ble_eq_true rfl) (Nat.le_refl _) (Nat.le_refl _) (Nat.le_of_ble_eq_true rfl) dX0_hearsAll_30 ?_
  refine ro_icmp_geN (tgt := 76) F dX0_hearsAll_33 (by decide) (by omega) (by omega) (fun c33 => ?_) (fun c33 => absurd c33 (by omega))
  refine ro_iconst (v := (nI 0)) F dX0_hearsAll_76 (by decide) ?_
  refine ro_istore (lv' := [(0, .ref (ad 0)), (1, .int (nI d)), (2, .int (nI k)), (3, .int (m (32 + 64 * (k + 1)) 2)), (4, .int (nI 0))]) F dX0_hearsAll_77 (Nat.le_of_ble_eq_true rfl) [1, 2, 3, 4, 0] rfl ?_
  refine it_loop np (lX0_hearsAll_79 d k eB m) (it (lX0_hearsAll_21 d k eB m) m np) (fun (_ : Nat) (b79 : Mem) => ∀ f : Nat, f % 64 ≠ 6 → f % 64 ≠ 7 → f % 64 ≠ 8 → f % 64 ≠ 9 → f % 64 ≠ 11 → b79 f = (it (lX0_hearsAll_21 d k eB m) m np) f) (fun (i79 : Nat) (b79 : Mem) => Wd (PicH x) g 6 (ad, ds, b79) 0 0 79 [(0, .ref (ad 0)), (1, .int (nI d)), (2, .int (nI k)), (3, .int (m (32 + 64 * (k + 1)) 2)), (4, .int (nI i79))] []) (fun f _ _ _ _ _ => rfl) (fun i_ b_ _ hb f h6 h7 h8 h9 h11 => (fr_lX0_hearsAll_79 d k eB m i_ b_ f h6 h7 h8 h9 h11).trans (hb f h6 h7 h8 h9 h11)) (fun i79 b79 hi79 hf79 ih79 => ?_) (fun b79 hf79 he79 => ?_)
  · refine ro_iload F dX0_hearsAll_79 4 rfl ?_
    refine ro_aload_n F dX0_hearsAll_81 0 rfl ?_
    refine hh_get F F.k.1 in_X0 (F.k.c rfl) 0 (hds 0 _ rfl) 2 (by decide) qX0_23 (fun _ h => h) (Nat.le_of_ble_eq_true rfl) (v := .ref (ad 2)) rfl dX0_hearsAll_82 ?_
    refine hh_get F F.k.1 in_X3 (F.k.c rfl) 2 (hds 2 _ rfl) 6 (by decide) qX0_159 (u_same (F.ts _ q162)) (Nat.le_of_ble_eq_true rfl) (v := .ref (ad 42)) rfl dX0_hearsAll_85 ?_
    refine cl_size F hA hL1 ((congrFun (hf79 42 (by omega) (by omega) (by omega) (by omega) (by omega)) 2).trans ((congrFun (fi_lX0_hearsAll_21 d k eB m m np 42 (by omega) (by omega) (by omega)) 2).trans (hn1))) cwX0_170 (Nat.le_of_ble_eq_true rfl) (Nat.le_refl _) (Nat.le_refl _) (Nat.le_of_ble_eq_true rfl) dX0_hearsAll_88 ?_
    refine ro_icmp_geN (tgt := 183) F dX0_hearsAll_91 (by decide) (by omega) (by omega) (fun c91 => absurd c91 (by omega)) (fun c91 => ?_)
    refine ro_aload_n F dX0_hearsAll_94 0 rfl ?_
    refine hh_get F F.k.1 in_X0 (F.k.c rfl) 0 (hds 0 _ rfl) 2 (by decide) qX0_23 (fun _ h => h) (Nat.le_of_ble_eq_true rfl) (v := .ref (ad 2)) rfl dX0_hearsAll_95 ?_
    refine hh_get F F.k.1 in_X3 (F.k.c rfl) 2 (hds 2 _ rfl) 6 (by decide) qX0_159 (u_same (F.ts _ q162)) (Nat.le_of_ble_eq_true rfl) (v := .ref (ad 42)) rfl dX0_hearsAll_98 ?_
    refine ro_iload F dX0_hearsAll_101 4 rfl ?_
    have hz := rB i79
    refine cl_get F hA hL1 ((congrFun (hf79 42 (by omega) (by omega) (by omega) (by omega) (by omega)) 2).trans ((congrFun (fi_lX0_hearsAll_21 d k eB m m np 42 (by omega) (by omega) (by omega)) 2).trans (hn1))) (by omega) cwX0_147 (Nat.le_of_ble_eq_true rfl) (Nat.le_refl _) (Nat.le_refl _) (Nat.le_of_ble_eq_true rfl) dX0_hearsAll_103 ?_
    refine cc_cast F (p := (eB i79)) (hB i79 (by omega)) (ci := 4) rfl q197 dX0_hearsAll_106 ?_
    refine hh_getN F F.k.1 in_X4 (F.k.c rfl) (eB i79) (hB i79 (by omega)) 1 (by decide) F.k.2.2.1.2.2.2.1 (fun _ h => h) (Nat.le_of_ble_eq_true rfl) (v := .int (m (eB i79) 1)) (congrArg Value.int ((congrFun (hf79 (eB i79) (by omega) (by omega) (by omega) (by omega) (by omega)) 1).trans (congrFun (fi_lX0_hearsAll_21 d k eB m m np (eB i79) (by omega) (by omega) (by omega)) 1))) dX0_hearsAll_109 ?_
    refine ro_iload_n F dX0_hearsAll_112 3 rfl ?_
    have J177_113 : Wd (PicH x) g 6 (ad, ds, (if (m (eB i79) 1) = (m (32 + 64 * (k + 1)) 2) then b79 else (if (rX0_hears d k i79 62 b79) = 0 then (m2 (fX0_hears d k i79 62 b79) (8 + 64 * (d + 1)) k ((b79 (8 + 64 * (d + 1)) k) + (rX0_hears d k i79 62 b79))) else (if (b79 11 0) = (-1) then (m2 (m2 (m2 (fX0_hears d k i79 62 b79) (8 + 64 * (d + 1)) k ((b79 (8 + 64 * (d + 1)) k) + (rX0_hears d k i79 62 b79))) 11 0 (nI d)) 11 1 (nI k)) else (m2 (fX0_hears d k i79 62 b79) (8 + 64 * (d + 1)) k ((b79 (8 + 64 * (d + 1)) k) + (rX0_hears d k i79 62 b79))))))) 0 0 177 [(0, .ref (ad 0)), (1, .int (nI d)), (2, .int (nI k)), (3, .int (m (32 + 64 * (k + 1)) 2)), (4, .int (nI i79))] [] := by
      refine ro_iincN (z := 1) (lv' := [(0, .ref (ad 0)), (1, .int (nI d)), (2, .int (nI k)), (3, .int (m (32 + 64 * (k + 1)) 2)), (4, .int (nI (i79 + 1)))]) F dX0_hearsAll_177 4 rfl (Nat.le_of_ble_eq_true rfl) [1, 2, 3, 4, 0] rfl ?_
      refine ro_goto (tgt := 79) F dX0_hearsAll_180 (by decide) ?_
      exact ih79
    refine ro_icmp_ne (tgt := 119) F dX0_hearsAll_113 (by decide) (fun c113 => ?_) (fun c113 => ?_)
    · refine ro_aload_n F dX0_hearsAll_119 0 rfl ?_
      refine ro_iload_n F dX0_hearsAll_120 1 rfl ?_
      refine ro_iload_n F dX0_hearsAll_121 2 rfl ?_
      refine ro_iload F dX0_hearsAll_122 4 rfl ?_
      refine cc_gets F hA (q := 62) F.k.2.2.2.1.2.2.1 (by decide) qX0_249 dX0_hearsAll_124 ?_
      refine co_cV (rest := []) F hA hds (metX0_hears (gx_l g) x ad ds b79 d k i79 62 ns np nc nw ne eB wy q N hD (by omega) (by omega) (by omega) (by decide)) cwX0_246 hdX0_hears rfl (Nat.le_of_ble_eq_true rfl) (Nat.le_of_ble_eq_true rfl) (Nat.le_refl _) (Nat.le_refl _) rfl (Nat.le_of_ble_eq_true rfl) dX0_hearsAll_127 ?_
      refine ro_istore (lv' := [(0, .ref (ad 0)), (1, .int (nI d)), (2, .int (nI k)), (3, .int (m (32 + 64 * (k + 1)) 2)), (4, .int (nI i79)), (5, .int (rX0_hears d k i79 62 b79))]) F dX0_hearsAll_130 (Nat.le_of_ble_eq_true rfl) [1, 2, 3, 4, 5, 0] rfl ?_
      refine ro_aload_n F dX0_hearsAll_132 0 rfl ?_
      refine hh_get F F.k.1 in_X0 (F.k.c rfl) 0 (hds 0 _ rfl) 8 (by decide) qX0_49 (fun _ h => h) (Nat.le_of_ble_eq_true rfl) (v := .ref (ad 8)) rfl dX0_hearsAll_133 ?_
      refine ro_iload_n F dX0_hearsAll_136 1 rfl ?_
      refine hh_ldA F F.k.1 8 5 20 (hds 8 _ rfl) (by decide) rfl (by decide) (q := 8 + 64 * (d + 1)) (by omega) dX0_hearsAll_137 (rw_at (by omega)) ?_
      refine ro_iload_n F dX0_hearsAll_138 2 rfl ?_
      refine ro_dup2 F dX0_hearsAll_139 rfl rfl ?_
      refine hh_ldI F F.k.1 (8 + 64 * (d + 1)) 8 (hds _ _ (fix_8 (by omega))) (by decide) (by omega) dX0_hearsAll_140 (congrFun (fr_fX0_hears d k i79 62 b79 (8 + 64 * (d + 1)) (by omega) (by omega) (by omega)) k) ?_
      refine ro_iload F dX0_hearsAll_141 5 rfl ?_
      refine ro_iadd F dX0_hearsAll_143 ?_
      refine hh_stI F F.k.1 hA (8 + 64 * (d + 1)) 8 (hds _ _ (fix_8 (by omega))) (by omega) (by decide) (by omega) dX0_hearsAll_144 ?_
      refine ro_iload F dX0_hearsAll_145 5 rfl ?_
      refine ro_if_eq (tgt := 177) F dX0_hearsAll_147 (by decide) (fun c147 => ?_) (fun c147 => ?_)
      · exact Wd.sub (lv' := [(0, .ref (ad 0)), (1, .int (nI d)), (2, .int (nI k)), (3, .int (m (32 + 64 * (k + 1)) 2)), (4, .int (nI i79))]) [0, 1, 2, 3, 4] rfl <| Wd.to J177_113 (by simp only [if_neg c113, if_pos c147]) rfl rfl
      · refine ro_aload_n F dX0_hearsAll_150 0 rfl ?_
        refine hh_get F F.k.1 in_X0 (F.k.c rfl) 0 (hds 0 _ rfl) 11 (by decide) qX0_55 (fun _ h => h) (Nat.le_of_ble_eq_true rfl) (v := .ref (ad 11)) rfl dX0_hearsAll_151 ?_
        refine ro_iconst (v := (nI 0)) F dX0_hearsAll_154 (by decide) ?_
        refine hh_ldI F F.k.1 11 2 (hds 11 _ rfl) (by decide) (by omega) dX0_hearsAll_155 ((m2_f _ _ (by omega)).trans (congrFun (fr_fX0_hears d k i79 62 b79 11 (by omega) (by omega) (by omega)) 0)) ?_
        refine ro_iconst (v := (-1)) F dX0_hearsAll_156 (by decide) ?_
        refine ro_icmp_eq (tgt := 163) F dX0_hearsAll_157 (by decide) (fun c157 => ?_) (fun c157 => ?_)
        · refine ro_aload_n F dX0_hearsAll_163 0 rfl ?_
          refine hh_get F F.k.1 in_X0 (F.k.c rfl) 0 (hds 0 _ rfl) 11 (by decide) qX0_55 (fun _ h => h) (Nat.le_of_ble_eq_true rfl) (v := .ref (ad 11)) rfl dX0_hearsAll_164 ?_
          refine ro_iconst (v := (nI 0)) F dX0_hearsAll_167 (by decide) ?_
          refine ro_iload_n F dX0_hearsAll_168 1 rfl ?_
          refine hh_stI F F.k.1 hA 11 2 (hds 11 _ rfl) (by omega) (by decide) (by omega) dX0_hearsAll_169 ?_
          refine ro_aload_n F dX0_hearsAll_170 0 rfl ?_
          refine hh_get F F.k.1 in_X0 (F.k.c rfl) 0 (hds 0 _ rfl) 11 (by decide) qX0_55 (fun _ h => h) (Nat.le_of_ble_eq_true rfl) (v := .ref (ad 11)) rfl dX0_hearsAll_171 ?_
          refine ro_iconst (v := (nI 1)) F dX0_hearsAll_174 (by decide) ?_
          refine ro_iload_n F dX0_hearsAll_175 2 rfl ?_
          refine hh_stI F F.k.1 hA 11 2 (hds 11 _ rfl) (by omega) (by decide) (by omega) dX0_hearsAll_176 ?_
          exact Wd.sub (lv' := [(0, .ref (ad 0)), (1, .int (nI d)), (2, .int (nI k)), (3, .int (m (32 + 64 * (k + 1)) 2)), (4, .int (nI i79))]) [0, 1, 2, 3, 4] rfl <| Wd.to J177_113 (by simp only [if_neg c113, if_neg c147, if_pos c157]) rfl rfl
        · refine ro_goto (tgt := 177) F dX0_hearsAll_160 (by decide) ?_
          exact Wd.sub (lv' := [(0, .ref (ad 0)), (1, .int (nI d)), (2, .int (nI k)), (3, .int (m (32 + 64 * (k + 1)) 2)), (4, .int (nI i79))]) [0, 1, 2, 3, 4] rfl <| Wd.to J177_113 (by simp only [if_neg c113, if_neg c147, if_neg c157]) rfl rfl
    · refine ro_goto (tgt := 177) F dX0_hearsAll_116 (by decide) ?_
      exact Wd.to J177_113 (by simp only [if_pos c113]) rfl rfl
  subst he79
  refine ro_iload F dX0_hearsAll_79 4 rfl ?_
  refine ro_aload_n F dX0_hearsAll_81 0 rfl ?_
  refine hh_get F F.k.1 in_X0 (F.k.c rfl) 0 (hds 0 _ rfl) 2 (by decide) qX0_23 (fun _ h => h) (Nat.le_of_ble_eq_true rfl) (v := .ref (ad 2)) rfl dX0_hearsAll_82 ?_
  refine hh_get F F.k.1 in_X3 (F.k.c rfl) 2 (hds 2 _ rfl) 6 (by decide) qX0_159 (u_same (F.ts _ q162)) (Nat.le_of_ble_eq_true rfl) (v := .ref (ad 42)) rfl dX0_hearsAll_85 ?_
  refine cl_size F hA hL1 ((congrFun (fi_lX0_hearsAll_79 d k eB m (it (lX0_hearsAll_21 d k eB m) m np) np 42 (by omega) (by omega) (by omega) (by omega) (by omega)) 2).trans ((congrFun (fi_lX0_hearsAll_21 d k eB m m np 42 (by omega) (by omega) (by omega)) 2).trans (hn1))) cwX0_170 (Nat.le_of_ble_eq_true rfl) (Nat.le_refl _) (Nat.le_refl _) (Nat.le_of_ble_eq_true rfl) dX0_hearsAll_88 ?_
  refine ro_icmp_geN (tgt := 183) F dX0_hearsAll_91 (by decide) (by omega) (by omega) (fun c91 => ?_) (fun c91 => absurd c91 (by omega))
  exact hret _ _ _ _ _ (Nat.le_refl _) (Nat.le_refl _) dX0_hearsAll_183 ⟨rfl, rfl⟩
