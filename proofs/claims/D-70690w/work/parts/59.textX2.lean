/-! the texts: passes, figure, topic -/
section PX2
variable (l : Launch) (x : Hx) (ad : Nat → Nat) (ds : Nat → Option Lay) (cm : Mem)
set_option maxHeartbeats 4000000 in
theorem metX1_passes_X2 (hds : FixD ds) (ty a i : Nat) (bt : Nat → Nat) (hi : i < 4) (hB : TxB cm 1 31 31 ty bt) (hat : cm 1 3 = nI a) (ha : a < ty) (hne : ¬ kx_ix i (bt a) = -1) :
    Cn l yX1_passes (ws_ yX1_passes cX1_passes 3 (some .int)) 5 0 0 [.ref (ad 1), .ref (hx_sa x (64000 + i))] (PicH x) (KC x) (hx_A x) (ad, ds, cm) (fun rv_ w_ => rv_ = some (.int (kx_ix i (bt a))) ∧ w_ = (ad, ds, m2 cm 1 3 (nI (a + 1)))) := by
  have hr := hB.2.1
  refine cn_i (own := RX1) rfl (Nat.le_of_ble_eq_true rfl) rfl (fun g hgl hA F hret => ?_)
  refine Wd.eql (lv' := [(0, .ref (ad 1)), (1, .ref (hx_sa x (64000 + i)))]) rfl ?_
  refine ro_aload_n F dX1_passes_0 0 rfl ?_
  refine hh_get F F.k.1 in_X2 (F.k.c rfl) 1 (hds 1 _ rfl) 3 (by decide) qX1_33 (fun _ h => h) (Nat.le_of_ble_eq_true rfl) (v := .int (nI a)) (congrArg Value.int hat) dX1_passes_1 ?_
  refine ro_aload_n F dX1_passes_4 0 rfl ?_
  refine hh_get F F.k.1 in_X2 (F.k.c rfl) 1 (hds 1 _ rfl) 2 (by decide) qX1_26 (fun _ h => h) (Nat.le_of_ble_eq_true rfl) (v := .int (nI ty)) (congrArg Value.int hB.1) dX1_passes_5 ?_
  refine ro_icmp_neN (tgt := 15) F dX1_passes_8 (by decide) (by omega) (by omega) (fun _ => ?_) (fun z => absurd z (by omega))
  refine ro_aload_n F dX1_passes_15 1 rfl ?_
  refine ro_aload_n F dX1_passes_16 0 rfl ?_
  refine hh_get F F.k.1 in_X2 (F.k.c rfl) 1 (hds 1 _ rfl) 0 (by decide) qX1_18 (fun _ h => h) (Nat.le_of_ble_eq_true rfl) (v := .ref (ad 31)) rfl dX1_passes_17 ?_
  refine ro_aload_n F dX1_passes_20 0 rfl ?_
  refine hh_get F F.k.1 in_X2 (F.k.c rfl) 1 (hds 1 _ rfl) 3 (by decide) qX1_33 (fun _ h => h) (Nat.le_of_ble_eq_true rfl) (v := .int (nI a)) (congrArg Value.int hat) dX1_passes_21 ?_
  refine hh_ldB F F.k.1 31 31 (hds 31 _ rfl) (by decide) (by omega) dX1_passes_24 rfl ?_
  refine ro_sipush (v := nI 255) F dX1_passes_25 (by decide) ?_
  refine ro_iand F dX1_passes_28 ?_
  refine ro_eqi (hB.2.2 a ha).2 ?_
  refine ca_R (rest := []) (by rw [hA]; exact KC_st x) F (fun q hq => by rw [hA]; exact hq) (metJ5_indexOf (PicH x) _ (gx_l g) x i hi (bt a) (hB.2.2 a ha).1) q461 q93 (iv_own (N := 1) (As := [.int (nI (bt a))]) F cwX1_36 (by decide +kernel) (ks_recv F hA hi) rfl rfl dX1_passes_29) (by decide) (by decide) (by decide) (by decide) (Nat.le_of_ble_eq_true rfl) (fun v w' hp => ?_)
  rw [hp.1, hp.2]
  refine Wd.eqs (st' := [.int (kx_ix i (bt a))]) rfl ?_
  refine ro_istore_n (lv' := [(0, .ref (ad 1)), (1, .ref (hx_sa x (64000 + i))), (2, .int (kx_ix i (bt a)))]) F dX1_passes_32 (Nat.le_of_ble_eq_true rfl) [1, 2, 0] rfl ?_
  refine ro_iload_n F dX1_passes_33 2 rfl ?_
  refine ro_iconst (v := -1) F dX1_passes_34 (by decide) ?_
  refine ro_icmp_ne (tgt := 50) F dX1_passes_35 (by decide) (fun _ => ?_) (fun z => absurd z hne)
  refine ro_aload_n F dX1_passes_50 0 rfl ?_
  refine ro_dup F dX1_passes_51 rfl ?_
  refine hh_get F F.k.1 in_X2 (F.k.c rfl) 1 (hds 1 _ rfl) 3 (by decide) qX1_33 (fun _ h => h) (Nat.le_of_ble_eq_true rfl) (v := .int (nI a)) (congrArg Value.int hat) dX1_passes_52 ?_
  refine ro_iconst (v := nI 1) F dX1_passes_55 (by decide) ?_
  refine ro_iaddN F dX1_passes_56 ?_
  refine hh_put F F.k.1 hA in_X2 tyX2 tyX2_ok nmX2 (F.k.c rfl) 1 (hds 1 _ rfl) (by decide) 3 (by decide) qX1_33 (fun _ h => h) (Nat.le_of_ble_eq_true rfl) rfl rfl rfl rfl dX1_passes_57 ?_
  refine ro_iload_n F dX1_passes_60 2 rfl ?_
  exact hret _ _ _ _ _ _ (by decide) (by decide) dX1_passes_61 rfl ⟨rfl, rfl⟩
set_option maxHeartbeats 4000000 in
/-- new Torn(at) and athrow -/
theorem tornX1_X2 {g : Gx} {cc : ByteArray} {nL d mc ms k n pc a : Nat} {lv : Lv} (S : Nat → Prop) (F : Fx g cc nL RX1 d mc ms (KC x)) (hA : gx_A g = hx_A x) (hX : Xend g (PicH x) (TnW 1 97 S ad ds cm (nI a)) mc ms (hx_A x)) (hds : FixD ds) (hat : cm 1 3 = nI a) (hn : ds 97 = none) (hd5 : 5 ≤ d) (hk : k + 1 ≤ mc) (hs : n + 7 ≤ ms) (hlv : lv[0]? = some (0, .ref (ad 1)))
    (d0 : decode cc pc = .ok (.new 42, 3)) (d1 : decode cc (pc + 3) = .ok (.dup, 1)) (d2 : decode cc (pc + 3 + 1) = .ok (.aload_n 0, 1)) (d3 : decode cc (pc + 3 + 1 + 1) = .ok (.getfield 33, 3)) (d4 : decode cc (pc + 3 + 1 + 1 + 3) = .ok (.invokespecial 44, 3)) (d5 : decode cc (pc + 3 + 1 + 1 + 3 + 3) = .ok (.athrow, 1)) : Wd (PicH x) g nL (ad, ds, cm) k n pc lv [] := by
  refine po_new F F.k.1 in_X7 tyX7 tyX7_ok (F.k.c (i := 7) rfl) q357 q370 q92 (tnF 0) (by decide) hk hs d0 (fun t => ?_)
  refine ro_dup F d1 rfl ?_
  refine ro_aload_n F d2 0 hlv ?_
  refine po_get F F.k.1 in_X2 (F.k.c rfl) 1 (hds 1 _ rfl) 3 (by decide) qX1_33 (fun _ h => h) (Nat.le_of_ble_eq_true rfl) (v := .int (nI a)) (congrArg Value.int hat) d3 ?_
  refine ca_I (N := 1) (As := [.int (nI a)]) (rest := [.ref t]) (by rw [hA]; exact KC_st x) F (fun q hq => by rw [hA]; exact hq) (metX7_init (gx_l g) x (ad, ds, cm) t (nI a)) q411 q92 q409 q410 rfl (by decide +kernel) rfl (by omega) (by decide) (by omega) (by omega) rfl (Nat.le_of_ble_eq_true rfl) d4 (fun v w' hp => ?_)
  rw [hp.1, hp.2]
  refine po_in 97 [some none, some none, some none, some none, some none, none, none] (by decide) hn (cm' := m2 (z0 cm 97) 97 6 (nI a)) (fun q hq => (m2_ff _ _ hq).trans (z0_n cm hq)) (fun r hr => by simp at hr) (tn_fs _ _ _ _) ?_
  refine ro_athrow F d5 ?_
  refine wt_out F hX (by omega) (by omega) ⟨_, _, _, rfl, ⟨fun r hr => up1_n _ _ (fun z => hr (Or.inl z)), fun r hr => up1_n _ _ (fun z => hr (Or.inl z)), fun r j hr _ => ?_⟩, (up1_s _ _ _).symm, up1_s _ _ _, m2_self _ _ _ _⟩
  have hq : r ≠ 97 := fun z => hr (Or.inl z)
  rw [m2_f _ _ hq, z0_n cm hq]
set_option maxHeartbeats 4000000 in
theorem mexX1_passes_X2 (hds : FixD ds) (ty a i : Nat) (bt : Nat → Nat) (hi : i < 4) (hB : TxB cm 1 31 31 ty bt) (hat : cm 1 3 = nI a) (ha : a ≤ ty) (hne : a < ty → kx_ix i (bt a) = -1) (hn : ds 97 = none) (S : Nat → Prop) :
    CnX l yX1_passes (ws_ yX1_passes cX1_passes 3 (some .int)) 5 1 7 [.ref (ad 1), .ref (hx_sa x (64000 + i))] (PicH x) (KC x) (hx_A x) (ad, ds, cm) (TnW 1 97 S ad ds cm (nI a)) := by
  have hr := hB.2.1
  refine cnx_start (own := RX1) rfl (Nat.le_of_ble_eq_true rfl) rfl (fun g hgl hA F hX => ?_)
  refine Wd.eql (lv' := [(0, .ref (ad 1)), (1, .ref (hx_sa x (64000 + i)))]) rfl ?_
  have tail : Wd (PicH x) g 3 (ad, ds, cm) 0 0 32 [(0, .ref (ad 1)), (1, .ref (hx_sa x (64000 + i)))] [.int (-1)] := by
    refine ro_istore_n (lv' := [(0, .ref (ad 1)), (1, .ref (hx_sa x (64000 + i))), (2, .int (-1))]) F dX1_passes_32 (Nat.le_of_ble_eq_true rfl) [1, 2, 0] rfl ?_
    refine ro_iload_n F dX1_passes_33 2 rfl ?_
    refine ro_iconst (v := -1) F dX1_passes_34 (by decide) ?_
    refine ro_icmp_ne (tgt := 50) F dX1_passes_35 (by decide) (fun z => absurd rfl z) (fun _ => ?_)
    exact tornX1_X2 x ad ds cm S F hA hX hds hat hn (by decide) (by decide) (by decide) rfl dX1_passes_38 dX1_passes_41 dX1_passes_42 dX1_passes_43 dX1_passes_46 dX1_passes_49
  refine ro_aload_n F dX1_passes_0 0 rfl ?_
  refine hh_get F F.k.1 in_X2 (F.k.c rfl) 1 (hds 1 _ rfl) 3 (by decide) qX1_33 (fun _ h => h) (Nat.le_of_ble_eq_true rfl) (v := .int (nI a)) (congrArg Value.int hat) dX1_passes_1 ?_
  refine ro_aload_n F dX1_passes_4 0 rfl ?_
  refine hh_get F F.k.1 in_X2 (F.k.c rfl) 1 (hds 1 _ rfl) 2 (by decide) qX1_26 (fun _ h => h) (Nat.le_of_ble_eq_true rfl) (v := .int (nI ty)) (congrArg Value.int hB.1) dX1_passes_5 ?_
  refine ro_icmp_neN (tgt := 15) F dX1_passes_8 (by decide) (by omega) (by omega) (fun z => ?_) (fun z => ?_)
  · have ha' : a < ty := by omega
    refine ro_aload_n F dX1_passes_15 1 rfl ?_
    refine ro_aload_n F dX1_passes_16 0 rfl ?_
    refine hh_get F F.k.1 in_X2 (F.k.c rfl) 1 (hds 1 _ rfl) 0 (by decide) qX1_18 (fun _ h => h) (Nat.le_of_ble_eq_true rfl) (v := .ref (ad 31)) rfl dX1_passes_17 ?_
    refine ro_aload_n F dX1_passes_20 0 rfl ?_
    refine hh_get F F.k.1 in_X2 (F.k.c rfl) 1 (hds 1 _ rfl) 3 (by decide) qX1_33 (fun _ h => h) (Nat.le_of_ble_eq_true rfl) (v := .int (nI a)) (congrArg Value.int hat) dX1_passes_21 ?_
    refine hh_ldB F F.k.1 31 31 (hds 31 _ rfl) (by decide) (by omega) dX1_passes_24 rfl ?_
    refine ro_sipush (v := nI 255) F dX1_passes_25 (by decide) ?_
    refine ro_iand F dX1_passes_28 ?_
    refine ro_eqi (hB.2.2 a ha').2 ?_
    refine ca_R (rest := []) (by rw [hA]; exact KC_st x) F (fun q hq => by rw [hA]; exact hq) (metJ5_indexOf (PicH x) _ (gx_l g) x i hi (bt a) (hB.2.2 a ha').1) q461 q93 (iv_own (N := 1) (As := [.int (nI (bt a))]) F cwX1_36 (by decide +kernel) (ks_recv F hA hi) rfl rfl dX1_passes_29) (by decide) (by decide) (by decide) (by decide) (Nat.le_of_ble_eq_true rfl) (fun v w' hp => ?_)
    rw [hp.1, hp.2]
    refine Wd.eqs (st' := [.int (-1)]) (by show [Value.int (kx_ix i (bt a))] = _; rw [hne ha']) ?_
    exact tail
  · refine ro_iconst (v := -1) F dX1_passes_11 (by decide) ?_
    refine ro_goto (tgt := 32) F dX1_passes_12 (by decide) ?_
    exact tail
set_option maxHeartbeats 4000000 in
theorem metX1_figure_X2 (hds : FixD ds) (ty a : Nat) (bt : Nat → Nat) (hB : TxB cm 1 31 31 ty bt) (hat : cm 1 3 = nI a) (ha : a < ty) (hne : ¬ kx_ix 0 (bt a) = -1) :
    Cn l yX1_figure (ws_ yX1_figure cX1_figure 1 (some .int)) 6 0 0 [.ref (ad 1)] (PicH x) (KC x) (hx_A x) (ad, ds, cm) (fun rv_ w_ => rv_ = some (.int (kx_ix 0 (bt a))) ∧ w_ = (ad, ds, m2 cm 1 3 (nI (a + 1)))) := by
  refine cn_i (own := RX1) rfl (Nat.le_of_ble_eq_true rfl) rfl (fun g hgl hA F hret => ?_)
  refine Wd.eql (lv' := [(0, .ref (ad 1))]) rfl ?_
  refine ro_aload_n F dX1_figure_0 0 rfl ?_
  refine ks_ldc F F.k.2.2.2.2.1.1 dX1_figure_1 ?_
  refine ca_R (rest := []) (by rw [hA]; exact KC_st x) F (fun q hq => by rw [hA]; exact hq) (metX1_passes_X2 (gx_l g) x ad ds cm hds ty a 0 bt (by decide) hB hat ha hne) q457 q81 (iv_sel (owner := RX1) (N := 1) (As := [.ref (hx_sa x (64000 + 0))]) F q452 q454 (va_Decl.of (F.ts _ q453) (F.ts _ q457)) q456 q453 (by decide +kernel) (fun H _ hP _ => hh_recv F.k.1 (hds 1 _ rfl) (F.k.c rfl) H hP) rfl rfl dX1_figure_3) (by decide) (by decide) (by decide) (by decide) (Nat.le_of_ble_eq_true rfl) (fun v w' hp => ?_)
  rw [hp.1, hp.2]
  exact hret _ _ _ _ _ _ (by decide) (by decide) dX1_figure_6 rfl ⟨rfl, rfl⟩
set_option maxHeartbeats 4000000 in
theorem mexX1_figure_X2 (hds : FixD ds) (ty a : Nat) (bt : Nat → Nat) (hB : TxB cm 1 31 31 ty bt) (hat : cm 1 3 = nI a) (ha : a ≤ ty) (hne : a < ty → kx_ix 0 (bt a) = -1) (hn : ds 97 = none) (S : Nat → Prop) :
    CnX l yX1_figure (ws_ yX1_figure cX1_figure 1 (some .int)) 6 1 7 [.ref (ad 1)] (PicH x) (KC x) (hx_A x) (ad, ds, cm) (TnW 1 97 S ad ds cm (nI a)) := by
  refine cnx_start (own := RX1) rfl (Nat.le_of_ble_eq_true rfl) rfl (fun g hgl hA F hX => ?_)
  refine Wd.eql (lv' := [(0, .ref (ad 1))]) rfl ?_
  refine ro_aload_n F dX1_figure_0 0 rfl ?_
  refine ks_ldc F F.k.2.2.2.2.1.1 dX1_figure_1 ?_
  refine ca_X (rest := []) (by rw [hA]; exact KC_st x) F (fun q hq => by rw [hA]; exact hq) (mexX1_passes_X2 (gx_l g) x ad ds cm hds ty a 0 bt (by decide) hB hat ha hne hn S) q457 q81 (iv_sel (owner := RX1) (N := 1) (As := [.ref (hx_sa x (64000 + 0))]) F q452 q454 (va_Decl.of (F.ts _ q453) (F.ts _ q457)) q456 q453 (by decide +kernel) (fun H _ hP _ => hh_recv F.k.1 (hds 1 _ rfl) (F.k.c rfl) H hP) rfl rfl dX1_figure_3) (by decide) (by decide) (by decide) (by decide) (Nat.le_of_ble_eq_true rfl) (fun t w' hp => ?_)
  exact wt_out F hX (by decide) (by decide) hp
set_option maxHeartbeats 4000000 in
theorem metX1_topic_X2 (hds : FixD ds) (ty a : Nat) (bt : Nat → Nat) (hB : TxB cm 1 31 31 ty bt) (hat : cm 1 3 = nI a) (ha : a < ty) (hne : ¬ kx_ix 1 (bt a) = -1) :
    Cn l yX1_topic (ws_ yX1_topic cX1_topic 1 (some .int)) 6 0 0 [.ref (ad 1)] (PicH x) (KC x) (hx_A x) (ad, ds, cm) (fun rv_ w_ => rv_ = some (.int (kx_ix 1 (bt a))) ∧ w_ = (ad, ds, m2 cm 1 3 (nI (a + 1)))) := by
  refine cn_i (own := RX1) rfl (Nat.le_of_ble_eq_true rfl) rfl (fun g hgl hA F hret => ?_)
  refine Wd.eql (lv' := [(0, .ref (ad 1))]) rfl ?_
  refine ro_aload_n F dX1_topic_0 0 rfl ?_
  refine ks_ldc F F.k.2.2.2.2.1.2.1 dX1_topic_1 ?_
  refine ca_R (rest := []) (by rw [hA]; exact KC_st x) F (fun q hq => by rw [hA]; exact hq) (metX1_passes_X2 (gx_l g) x ad ds cm hds ty a 1 bt (by decide) hB hat ha hne) q457 q81 (iv_sel (owner := RX1) (N := 1) (As := [.ref (hx_sa x (64000 + 1))]) F q452 q454 (va_Decl.of (F.ts _ q453) (F.ts _ q457)) q456 q453 (by decide +kernel) (fun H _ hP _ => hh_recv F.k.1 (hds 1 _ rfl) (F.k.c rfl) H hP) rfl rfl dX1_topic_3) (by decide) (by decide) (by decide) (by decide) (Nat.le_of_ble_eq_true rfl) (fun v w' hp => ?_)
  rw [hp.1, hp.2]
  exact hret _ _ _ _ _ _ (by decide) (by decide) dX1_topic_6 rfl ⟨rfl, rfl⟩
set_option maxHeartbeats 4000000 in
theorem mexX1_topic_X2 (hds : FixD ds) (ty a : Nat) (bt : Nat → Nat) (hB : TxB cm 1 31 31 ty bt) (hat : cm 1 3 = nI a) (ha : a ≤ ty) (hne : a < ty → kx_ix 1 (bt a) = -1) (hn : ds 97 = none) (S : Nat → Prop) :
    CnX l yX1_topic (ws_ yX1_topic cX1_topic 1 (some .int)) 6 1 7 [.ref (ad 1)] (PicH x) (KC x) (hx_A x) (ad, ds, cm) (TnW 1 97 S ad ds cm (nI a)) := by
  refine cnx_start (own := RX1) rfl (Nat.le_of_ble_eq_true rfl) rfl (fun g hgl hA F hX => ?_)
  refine Wd.eql (lv' := [(0, .ref (ad 1))]) rfl ?_
  refine ro_aload_n F dX1_topic_0 0 rfl ?_
  refine ks_ldc F F.k.2.2.2.2.1.2.1 dX1_topic_1 ?_
  refine ca_X (rest := []) (by rw [hA]; exact KC_st x) F (fun q hq => by rw [hA]; exact hq) (mexX1_passes_X2 (gx_l g) x ad ds cm hds ty a 1 bt (by decide) hB hat ha hne hn S) q457 q81 (iv_sel (owner := RX1) (N := 1) (As := [.ref (hx_sa x (64000 + 1))]) F q452 q454 (va_Decl.of (F.ts _ q453) (F.ts _ q457)) q456 q453 (by decide +kernel) (fun H _ hP _ => hh_recv F.k.1 (hds 1 _ rfl) (F.k.c rfl) H hP) rfl rfl dX1_topic_3) (by decide) (by decide) (by decide) (by decide) (Nat.le_of_ble_eq_true rfl) (fun t w' hp => ?_)
  exact wt_out F hX (by decide) (by decide) hp
end PX2
