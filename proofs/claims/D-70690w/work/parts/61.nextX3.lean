/-! a text: part, next -/
section Q2
variable (l : Launch) (x : Hx) (ad : Nat → Nat) (ds : Nat → Option Lay) (cm : Mem)

set_option maxHeartbeats 4000000 in
theorem metX3_part (hds : FixD ds) (ty a p : Nat) (bt : Nat → Nat) (hB : TxB cm 2 41 23 ty bt) (hat : cm 2 3 = nI a) (hok : okX3 ty bt a) (hp64 : p % 64 = 42) (hp42 : p ≠ 42) (hpn : ds p = none) :
    Cn l yX3_part (ws_ yX3_part cX3_part 1 (some (.object "java/lang/Object"))) 8 1 3 [.ref (ad 2)] (PicH x) (KC x) (hx_A x) (ad, ds, cm) (fun rv_ w_ => ∃ ad' ds' cm', w_ = (ad', ds', cm') ∧ rv_ = some (.ref (ad' p)) ∧ TkS 2 (fun r => r = p) ad ds cm ad' ds' cm' ∧ cm' 2 3 = nI (a + 2) ∧ elX3 ds' cm' p bt a) := by
  refine cn_a (own := RX3) (Or.inl ⟨_, rfl⟩) rfl (Nat.le_of_ble_eq_true rfl) rfl (fun g hgl hA F hret => ?_)
  refine Wd.eql (lv' := [(0, .ref (ad 2))]) rfl ?_
  refine ro_aload_n F dX3_part_0 0 rfl ?_
  refine ca_R (rest := []) (by rw [hA]; exact KC_st x) F (fun q hq => by rw [hA]; exact hq) (metX3_part_2 (gx_l g) x ad ds cm hds ty a p bt hB hat hok hp64 hp42 hpn) q444 q86 (iv_own (N := 0) (As := []) F cwX3_21 (by decide +kernel) (fun H _ hP _ => hh_recv F.k.1 (hds 2 _ rfl) (F.k.c rfl) H hP) rfl rfl dX3_part_1) (by decide) (by decide) (by decide) (by decide) (Nat.le_of_ble_eq_true rfl) (fun v w' hp => ?_)
  obtain ⟨ad', ds', cm', e1, e2, e3⟩ := hp
  rw [e1, e2]
  exact hret _ _ _ _ _ _ (by decide) (by decide) dX3_part_4 ⟨ad', ds', cm', rfl, rfl, e3⟩
set_option maxHeartbeats 4000000 in
theorem mexX3_part (hds : FixD ds) (ty a p o : Nat) (bt : Nat → Nat) (hB : TxB cm 2 41 23 ty bt) (hat : cm 2 3 = nI a) (ha : a ≤ ty) (hbd : bdX3 ty bt a o) (hp64 : p % 64 = 42) (hp42 : p ≠ 42) (hpn : ds p = none) (hn : ds 107 = none) :
    CnX l yX3_part (ws_ yX3_part cX3_part 1 (some (.object "java/lang/Object"))) 8 2 10 [.ref (ad 2)] (PicH x) (KC x) (hx_A x) (ad, ds, cm) (TnW 2 107 (fun r => r = p) ad ds cm (nI (a + o))) := by
  refine cnx_start (own := RX3) rfl (Nat.le_of_ble_eq_true rfl) rfl (fun g hgl hA F hX => ?_)
  refine Wd.eql (lv' := [(0, .ref (ad 2))]) rfl ?_
  refine ro_aload_n F dX3_part_0 0 rfl ?_
  refine ca_X (rest := []) (by rw [hA]; exact KC_st x) F (fun q hq => by rw [hA]; exact hq) (mexX3_part_2 (gx_l g) x ad ds cm hds ty a p o bt hB hat ha hbd hp64 hp42 hpn hn) q444 q86 (iv_own (N := 0) (As := []) F cwX3_21 (by decide +kernel) (fun H _ hP _ => hh_recv F.k.1 (hds 2 _ rfl) (F.k.c rfl) H hP) rfl rfl dX3_part_1) (by decide) (by decide) (by decide) (by decide) (Nat.le_of_ble_eq_true rfl) (fun t w' hp => ?_)
  exact wt_out F hX (by decide) (by decide) hp
/-- the list of the text: n elements, its array made or not yet -/
def lsX3 (ds : Nat → Option Lay) (cm : Mem) (n : Nat) (e : Nat → Nat) : Prop := ∃ q N, LsD ds 42 q N n e ∧ cm 42 2 = nI n ∧ ((q = 63 ∧ N = 0 ∧ ds 43 = none) ∨ (q = 43 ∧ N = 10))
set_option maxHeartbeats 4000000 in
theorem metX1_next_X3 (hds : FixD ds) (ty a p n : Nat) (e : Nat → Nat) (bt : Nat → Nat) (hB : TxB cm 2 41 23 ty bt) (hat : cm 2 3 = nI a) (hmo : cm 2 1 = nI 8) (hls : lsX3 ds cm n e) (hn8 : n < 8) (hok : okX3 ty bt a) (hp64 : p % 64 = 42) (hp42 : p ≠ 42) (hpn : ds p = none) :
    Cn l yX1_next (ws_ yX1_next cX1_next 1 none) 9 2 13 [.ref (ad 2)] (PicH x) (KC x) (hx_A x) (ad, ds, cm) (fun rv_ w_ => rv_ = none ∧ ∃ ad' ds' cm', w_ = (ad', ds', cm') ∧ TkS 2 (fun r => r = p ∨ r = 42 ∨ r = 43) ad ds cm ad' ds' cm' ∧ cm' 2 3 = nI (a + 2) ∧ elX3 ds' cm' p bt a ∧ lsX3 ds' cm' (n + 1) (up1 e n p)) := by
  obtain ⟨q, N, hL, hn, hq⟩ := hls
  refine cn_v (own := RX1) rfl (Nat.le_of_ble_eq_true rfl) rfl (fun g hgl hA F hret => ?_)
  refine Wd.eql (lv' := [(0, .ref (ad 2))]) rfl ?_
  refine ro_aload_n F dX1_next_0 0 rfl ?_
  refine hh_get F F.k.1 in_X3 (F.k.c rfl) 2 (hds 2 _ rfl) 6 (by decide) qX1_12 (fun _ h => h) (Nat.le_of_ble_eq_true rfl) (v := .ref (ad 42)) rfl dX1_next_1 ?_
  refine cl_size F hA hL hn cwX1_55 (by decide) (by decide) (by decide) (Nat.le_of_ble_eq_true rfl) dX1_next_4 ?_
  refine ro_aload_n F dX1_next_7 0 rfl ?_
  refine hh_get F F.k.1 in_X3 (F.k.c rfl) 2 (hds 2 _ rfl) 1 (by decide) qX1_22 (fun _ h => h) (Nat.le_of_ble_eq_true rfl) (v := .int (nI 8)) (congrArg Value.int hmo) dX1_next_8 ?_
  refine ro_icmp_neN (tgt := 26) F dX1_next_11 (by decide) (by omega) (by decide) (fun _ => ?_) (fun z => absurd z (by omega))
  refine ro_aload_n F dX1_next_26 0 rfl ?_
  refine hh_get F F.k.1 in_X3 (F.k.c rfl) 2 (hds 2 _ rfl) 6 (by decide) qX1_12 (fun _ h => h) (Nat.le_of_ble_eq_true rfl) (v := .ref (ad 42)) rfl dX1_next_27 ?_
  refine ro_aload_n F dX1_next_30 0 rfl ?_
  refine ca_R (rest := [.ref (ad 42)]) (by rw [hA]; exact KC_st x) F (fun q hq => by rw [hA]; exact hq) (metX3_part (gx_l g) x ad ds cm hds ty a p bt hB hat hok hp64 hp42 hpn) q440 q86 (iv_sel (owner := RX1) (N := 0) (As := []) F q435 q437 (va_Decl.abs (F.k.2.2.2.2.2.2.1.1 _ (by decide))) q438 q439 (by decide +kernel) (fun H _ hP _ => hh_recv F.k.1 (hds 2 _ rfl) (F.k.c rfl) H hP) rfl rfl dX1_next_31) (by decide) (by decide) (by decide) (by decide) (Nat.le_of_ble_eq_true rfl) (fun v w' hp => ?_)
  obtain ⟨ad1, ds1, cm1, e1, e2, t1, e3, e4⟩ := hp
  rw [e1, e2]
  have hpn' : ∀ r, r % 64 ≠ 42 → ¬ (fun r => r = p) r := fun r hr z => hr (by rw [z]; exact hp64)
  have a1 : ad1 2 = ad 2 := t1.1 _ (hpn' _ (by decide))
  have a2 : ad1 42 = ad 42 := t1.1 _ (fun z => hp42 z.symm)
  have d2 : ds1 42 = ds 42 := t1.2.1 _ (fun z => hp42 z.symm)
  have fx : FixD ds1 := fun r L hr => by
    rw [t1.2.1 r (fun z => by have z' : r = p := z; rw [z', fix_no (by omega)] at hr; cases hr)]
    exact hds r L hr
  have hqp : q ≠ p := fun z => by rcases hq with ⟨c, -⟩ | ⟨c, -⟩ <;> omega
  have hL1 : LsD ds1 42 q N n e := ⟨by rw [d2]; exact hL.1, by rw [t1.2.1 q hqp]; exact hL.2.1, hL.2.2⟩
  have hq1 : (q = 63 ∧ N = 0 ∧ ds1 43 = none) ∨ (q = 43 ∧ N = 10) := hq.imp (fun c => ⟨c.1, c.2.1, by rw [t1.2.1 _ (hpn' _ (by decide))]; exact c.2.2⟩) id
  have hn1 : cm1 42 2 = nI n := by rw [t1.2.2 _ _ (fun z => hp42 z.symm) (by decide)]; exact hn
  have hel : ElOk ds1 p := by exact Or.inr (Or.inl ⟨_, e4.1⟩)
  refine Wd.eqs (st' := ([.ref (ad1 p)] : List Value).reverse ++ .ref (ad1 42) :: []) (by rw [a2]; rfl) ?_
  refine ca_V (N := 1) (by rw [hA]; exact KC_st x) F (fun q hq => by rw [hA]; exact hq) (metJ2_add (gx_l g) x ad1 ds1 cm1 42 43 q N n p e fx hL1 hn1 (by omega) (by decide) (by decide) (by decide) hq1 hel hp42 (by omega)) cwX1_63 (hh_recv F.k.1 hL1.1 (F.k.c rfl)) (by decide +kernel) rfl (Nat.le_of_ble_eq_true rfl) (Nat.le_of_ble_eq_true rfl) (by decide) (by decide) (Nat.le_of_ble_eq_true rfl) dX1_next_34 (fun v w' hp => ?_)
  obtain ⟨e5, ad2, ds2, e6, t2, t3, t4, t5⟩ := hp
  rw [e5, e6]
  refine ro_pop F dX1_next_37 rfl ?_
  have cq : ∀ r j, r ≠ 42 → m2 (m2 cm1 42 0 (cm1 42 0 + 1)) 42 2 (nI (n + 1)) r j = cm1 r j := fun r j hr => by rw [m2_f _ _ hr, m2_f _ _ hr]
  refine hret _ _ _ _ _ (by decide) (by decide) dX1_next_38 ⟨rfl, ad2, ds2, _, rfl, ⟨fun r hr => ?_, fun r hr => ?_, fun r j hr hj => ?_⟩, ?_, ?_, ⟨43, 10, t4, m2_self _ _ _ _, Or.inr ⟨rfl, rfl⟩⟩⟩
  · rw [t2 r (fun z => hr (Or.inr (Or.inr z)))]
    exact t1.1 r (fun z => hr (Or.inl z))
  · rw [t3 r (fun z => hr (Or.inr (Or.inr z))) (fun z => hr (Or.inr (Or.inl z)))]
    exact t1.2.1 r (fun z => hr (Or.inl z))
  · rw [cq r j (fun z => hr (Or.inr (Or.inl z)))]
    exact t1.2.2 r j (fun z => hr (Or.inl z)) hj
  · rw [cq _ _ (by decide)]; exact e3
  · unfold elX3
    rw [t3 p (by omega) hp42, cq p _ hp42, cq p _ hp42]
    exact e4
set_option maxHeartbeats 4000000 in
theorem mexX1_next_X3 (hds : FixD ds) (ty a p n o : Nat) (e : Nat → Nat) (bt : Nat → Nat) (hB : TxB cm 2 41 23 ty bt) (hat : cm 2 3 = nI a) (ha : a ≤ ty) (hmo : cm 2 1 = nI 8) (hls : lsX3 ds cm n e) (hn8 : n ≤ 8) (hbd : (n = 8 ∧ o = 0) ∨ (n < 8 ∧ bdX3 ty bt a o)) (hp64 : p % 64 = 42) (hp42 : p ≠ 42) (hpn : ds p = none) (htn : ds 107 = none) :
    CnX l yX1_next (ws_ yX1_next cX1_next 1 none) 9 2 10 [.ref (ad 2)] (PicH x) (KC x) (hx_A x) (ad, ds, cm) (TnW 2 107 (fun r => r = p) ad ds cm (nI (a + o))) := by
  obtain ⟨q, N, hL, hn, hq⟩ := hls
  refine cnx_start (own := RX1) rfl (Nat.le_of_ble_eq_true rfl) rfl (fun g hgl hA F hX => ?_)
  refine Wd.eql (lv' := [(0, .ref (ad 2))]) rfl ?_
  refine ro_aload_n F dX1_next_0 0 rfl ?_
  refine hh_get F F.k.1 in_X3 (F.k.c rfl) 2 (hds 2 _ rfl) 6 (by decide) qX1_12 (fun _ h => h) (Nat.le_of_ble_eq_true rfl) (v := .ref (ad 42)) rfl dX1_next_1 ?_
  refine cl_size F hA hL hn cwX1_55 (by decide) (by decide) (by decide) (Nat.le_of_ble_eq_true rfl) dX1_next_4 ?_
  refine ro_aload_n F dX1_next_7 0 rfl ?_
  refine hh_get F F.k.1 in_X3 (F.k.c rfl) 2 (hds 2 _ rfl) 1 (by decide) qX1_22 (fun _ h => h) (Nat.le_of_ble_eq_true rfl) (v := .int (nI 8)) (congrArg Value.int hmo) dX1_next_8 ?_
  refine ro_icmp_neN (tgt := 26) F dX1_next_11 (by decide) (by omega) (by decide) (fun z => ?_) (fun z => ?_)
  · rcases hbd with c | ⟨-, c⟩
    · exact absurd c.1 z
    refine ro_aload_n F dX1_next_26 0 rfl ?_
    refine hh_get F F.k.1 in_X3 (F.k.c rfl) 2 (hds 2 _ rfl) 6 (by decide) qX1_12 (fun _ h => h) (Nat.le_of_ble_eq_true rfl) (v := .ref (ad 42)) rfl dX1_next_27 ?_
    refine ro_aload_n F dX1_next_30 0 rfl ?_
    refine ca_X (rest := [.ref (ad 42)]) (by rw [hA]; exact KC_st x) F (fun q hq => by rw [hA]; exact hq) (mexX3_part (gx_l g) x ad ds cm hds ty a p o bt hB hat ha c hp64 hp42 hpn htn) q440 q86 (iv_sel (owner := RX1) (N := 0) (As := []) F q435 q437 (va_Decl.abs (F.k.2.2.2.2.2.2.1.1 _ (by decide))) q438 q439 (by decide +kernel) (fun H _ hP _ => hh_recv F.k.1 (hds 2 _ rfl) (F.k.c rfl) H hP) rfl rfl dX1_next_31) (by decide) (by decide) (by decide) (by decide) (Nat.le_of_ble_eq_true rfl) (fun t w' hp => ?_)
    exact wt_out F hX (by decide) (by decide) hp
  · rcases hbd with c | ⟨c, -⟩
    · rw [c.2] at hX
      exact tornX1_X3 x ad ds cm (fun r => r = p) F hA hX hds hat htn (by decide) (by decide) (by decide) rfl dX1_next_14 dX1_next_17 dX1_next_18 dX1_next_19 dX1_next_22 dX1_next_25
    · omega
end Q2
