/-! a text: part, next -/
section Q2
variable (l : Launch) (x : Hx) (ad : Nat → Nat) (ds : Nat → Option Lay) (cm : Mem)

set_option maxHeartbeats 4000000 in
theorem metX2_part (hds : FixD ds) (ty a p : Nat) (bt : Nat → Nat) (hB : TxB cm 1 31 31 ty bt) (hat : cm 1 3 = nI a) (hok : okX2 ty bt a) (hp64 : p % 64 = 32) (hpn : ds p = none) :
    Cn l yX2_part (ws_ yX2_part cX2_part 1 (some (.object "java/lang/Object"))) 8 1 3 [.ref (ad 1)] (PicH x) (KC x) (hx_A x) (ad, ds, cm) (fun rv_ w_ => ∃ ad' ds' cm', w_ = (ad', ds', cm') ∧ rv_ = some (.ref (ad' p)) ∧ TkS 1 (fun r => r = p) ad ds cm ad' ds' cm' ∧ cm' 1 3 = nI (a + 3) ∧ elX2 ds' cm' p bt a) := by
  refine cn_a (own := RX2) (Or.inl ⟨_, rfl⟩) rfl (Nat.le_of_ble_eq_true rfl) rfl (fun g hgl hA F hret => ?_)
  refine Wd.eql (lv' := [(0, .ref (ad 1))]) rfl ?_
  refine ro_aload_n F dX2_part_0 0 rfl ?_
  refine ca_R (rest := []) (by rw [hA]; exact KC_st x) F (fun q hq => by rw [hA]; exact hq) (metX2_part_2 (gx_l g) x ad ds cm hds ty a p bt hB hat hok hp64 hpn) q559 q82 (iv_own (N := 0) (As := []) F cwX2_33 (by decide +kernel) (fun H _ hP _ => hh_recv F.k.1 (hds 1 _ rfl) (F.k.c rfl) H hP) rfl rfl dX2_part_1) (by decide) (by decide) (by decide) (by decide) (Nat.le_of_ble_eq_true rfl) (fun v w' hp => ?_)
  obtain ⟨ad', ds', cm', e1, e2, e3⟩ := hp
  rw [e1, e2]
  exact hret _ _ _ _ _ _ (by decide) (by decide) dX2_part_4 ⟨ad', ds', cm', rfl, rfl, e3⟩
set_option maxHeartbeats 4000000 in
theorem mexX2_part (hds : FixD ds) (ty a p o : Nat) (bt : Nat → Nat) (hB : TxB cm 1 31 31 ty bt) (hat : cm 1 3 = nI a) (ha : a ≤ ty) (hbd : bdX2 ty bt a o) (hp64 : p % 64 = 32) (hpn : ds p = none) (hn : ds 97 = none) :
    CnX l yX2_part (ws_ yX2_part cX2_part 1 (some (.object "java/lang/Object"))) 8 2 10 [.ref (ad 1)] (PicH x) (KC x) (hx_A x) (ad, ds, cm) (TnW 1 97 (fun r => r = p) ad ds cm (nI (a + o))) := by
  refine cnx_start (own := RX2) rfl (Nat.le_of_ble_eq_true rfl) rfl (fun g hgl hA F hX => ?_)
  refine Wd.eql (lv' := [(0, .ref (ad 1))]) rfl ?_
  refine ro_aload_n F dX2_part_0 0 rfl ?_
  refine ca_X (rest := []) (by rw [hA]; exact KC_st x) F (fun q hq => by rw [hA]; exact hq) (mexX2_part_2 (gx_l g) x ad ds cm hds ty a p o bt hB hat ha hbd hp64 hpn hn) q559 q82 (iv_own (N := 0) (As := []) F cwX2_33 (by decide +kernel) (fun H _ hP _ => hh_recv F.k.1 (hds 1 _ rfl) (F.k.c rfl) H hP) rfl rfl dX2_part_1) (by decide) (by decide) (by decide) (by decide) (Nat.le_of_ble_eq_true rfl) (fun t w' hp => ?_)
  exact wt_out F hX (by decide) (by decide) hp
/-- the list of the text: n elements, its array made or not yet -/
def lsX2 (ds : Nat → Option Lay) (cm : Mem) (n : Nat) (e : Nat → Nat) : Prop := ∃ q N, LsD ds 32 q N n e ∧ cm 32 2 = nI n ∧ ((q = 63 ∧ N = 0 ∧ ds 33 = none) ∨ (q = 33 ∧ N = 10))
set_option maxHeartbeats 4000000 in
theorem metX1_next_X2 (hds : FixD ds) (ty a p n : Nat) (e : Nat → Nat) (bt : Nat → Nat) (hB : TxB cm 1 31 31 ty bt) (hat : cm 1 3 = nI a) (hmo : cm 1 1 = nI 8) (hls : lsX2 ds cm n e) (hn8 : n < 8) (hok : okX2 ty bt a) (hp64 : p % 64 = 32) (hp42 : p ≠ 32) (hpn : ds p = none) :
    Cn l yX1_next (ws_ yX1_next cX1_next 1 none) 9 2 13 [.ref (ad 1)] (PicH x) (KC x) (hx_A x) (ad, ds, cm) (fun rv_ w_ => rv_ = none ∧ ∃ ad' ds' cm', w_ = (ad', ds', cm') ∧ TkS 1 (fun r => r = p ∨ r = 32 ∨ r = 33) ad ds cm ad' ds' cm' ∧ cm' 1 3 = nI (a + 3) ∧ elX2 ds' cm' p bt a ∧ lsX2 ds' cm' (n + 1) (up1 e n p)) := by
  obtain ⟨q, N, hL, hn, hq⟩ := hls
  refine cn_v (own := RX1) rfl (Nat.le_of_ble_eq_true rfl) rfl (fun g hgl hA F hret => ?_)
  refine Wd.eql (lv' := [(0, .ref (ad 1))]) rfl ?_
  refine ro_aload_n F dX1_next_0 0 rfl ?_
  refine hh_get F F.k.1 in_X2 (F.k.c rfl) 1 (hds 1 _ rfl) 6 (by decide) qX1_12 (fun _ h => h) (Nat.le_of_ble_eq_true rfl) (v := .ref (ad 32)) rfl dX1_next_1 ?_
  refine cl_size F hA hL hn cwX1_55 (by decide) (by decide) (by decide) (Nat.le_of_ble_eq_true rfl) dX1_next_4 ?_
  refine ro_aload_n F dX1_next_7 0 rfl ?_
  refine hh_get F F.k.1 in_X2 (F.k.c rfl) 1 (hds 1 _ rfl) 1 (by decide) qX1_22 (fun _ h => h) (Nat.le_of_ble_eq_true rfl) (v := .int (nI 8)) (congrArg Value.int hmo) dX1_next_8 ?_
  refine ro_icmp_neN (tgt := 26) F dX1_next_11 (by decide) (by omega) (by decide) (fun _ => ?_) (fun z => absurd z (by omega))
  refine ro_aload_n F dX1_next_26 0 rfl ?_
  refine hh_get F F.k.1 in_X2 (F.k.c rfl) 1 (hds 1 _ rfl) 6 (by decide) qX1_12 (fun _ h => h) (Nat.le_of_ble_eq_true rfl) (v := .ref (ad 32)) rfl dX1_next_27 ?_
  refine ro_aload_n F dX1_next_30 0 rfl ?_
  refine ca_R (rest := [.ref (ad 32)]) (by rw [hA]; exact KC_st x) F (fun q hq => by rw [hA]; exact hq) (metX2_part (gx_l g) x ad ds cm hds ty a p bt hB hat hok hp64 hpn) q555 q82 (iv_sel (owner := RX1) (N := 0) (As := []) F q435 q437 (va_Decl.abs (F.k.2.2.2.2.2.2.1.1 _ (by decide))) q553 q554 (by decide +kernel) (fun H _ hP _ => hh_recv F.k.1 (hds 1 _ rfl) (F.k.c rfl) H hP) rfl rfl dX1_next_31) (by decide) (by decide) (by decide) (by decide) (Nat.le_of_ble_eq_true rfl) (fun v w' hp => ?_)
  obtain ⟨ad1, ds1, cm1, e1, e2, t1, e3, e4⟩ := hp
  rw [e1, e2]
  have hpn' : ∀ r, r % 64 ≠ 32 → ¬ (fun r => r = p) r := fun r hr z => hr (by rw [z]; exact hp64)
  have a1 : ad1 1 = ad 1 := t1.1 _ (hpn' _ (by decide))
  have a2 : ad1 32 = ad 32 := t1.1 _ (fun z => hp42 z.symm)
  have d2 : ds1 32 = ds 32 := t1.2.1 _ (fun z => hp42 z.symm)
  have fx : FixD ds1 := fun r L hr => by
    rw [t1.2.1 r (fun z => by have z' : r = p := z; rw [z', fix_no (by omega)] at hr; cases hr)]
    exact hds r L hr
  have hqp : q ≠ p := fun z => by rcases hq with ⟨c, -⟩ | ⟨c, -⟩ <;> omega
  have hL1 : LsD ds1 32 q N n e := ⟨by rw [d2]; exact hL.1, by rw [t1.2.1 q hqp]; exact hL.2.1, hL.2.2⟩
  have hq1 : (q = 63 ∧ N = 0 ∧ ds1 33 = none) ∨ (q = 33 ∧ N = 10) := hq.imp (fun c => ⟨c.1, c.2.1, by rw [t1.2.1 _ (hpn' _ (by decide))]; exact c.2.2⟩) id
  have hn1 : cm1 32 2 = nI n := by rw [t1.2.2 _ _ (fun z => hp42 z.symm) (by decide)]; exact hn
  have hel : ElOk ds1 p := by exact Or.inl ⟨_, e4.1⟩
  refine Wd.eqs (st' := ([.ref (ad1 p)] : List Value).reverse ++ .ref (ad1 32) :: []) (by rw [a2]; rfl) ?_
  refine ca_V (N := 1) (by rw [hA]; exact KC_st x) F (fun q hq => by rw [hA]; exact hq) (metJ2_add (gx_l g) x ad1 ds1 cm1 32 33 q N n p e fx hL1 hn1 (by omega) (by decide) (by decide) (by decide) hq1 hel hp42 (by omega)) cwX1_63 (hh_recv F.k.1 hL1.1 (F.k.c rfl)) (by decide +kernel) rfl (Nat.le_of_ble_eq_true rfl) (Nat.le_of_ble_eq_true rfl) (by decide) (by decide) (Nat.le_of_ble_eq_true rfl) dX1_next_34 (fun v w' hp => ?_)
  obtain ⟨e5, ad2, ds2, e6, t2, t3, t4, t5⟩ := hp
  rw [e5, e6]
  refine ro_pop F dX1_next_37 rfl ?_
  have cq : ∀ r j, r ≠ 32 → m2 (m2 cm1 32 0 (cm1 32 0 + 1)) 32 2 (nI (n + 1)) r j = cm1 r j := fun r j hr => by rw [m2_f _ _ hr, m2_f _ _ hr]
  refine hret _ _ _ _ _ (by decide) (by decide) dX1_next_38 ⟨rfl, ad2, ds2, _, rfl, ⟨fun r hr => ?_, fun r hr => ?_, fun r j hr hj => ?_⟩, ?_, ?_, ⟨33, 10, t4, m2_self _ _ _ _, Or.inr ⟨rfl, rfl⟩⟩⟩
  · rw [t2 r (fun z => hr (Or.inr (Or.inr z)))]
    exact t1.1 r (fun z => hr (Or.inl z))
  · rw [t3 r (fun z => hr (Or.inr (Or.inr z))) (fun z => hr (Or.inr (Or.inl z)))]
    exact t1.2.1 r (fun z => hr (Or.inl z))
  · rw [cq r j (fun z => hr (Or.inr (Or.inl z)))]
    exact t1.2.2 r j (fun z => hr (Or.inl z)) hj
  · rw [cq _ _ (by decide)]; exact e3
  · unfold elX2
    rw [t3 p (by omega) hp42, cq p _ hp42, cq p _ hp42]
    exact e4
set_option maxHeartbeats 4000000 in
theorem mexX1_next_X2 (hds : FixD ds) (ty a p n o : Nat) (e : Nat → Nat) (bt : Nat → Nat) (hB : TxB cm 1 31 31 ty bt) (hat : cm 1 3 = nI a) (ha : a ≤ ty) (hmo : cm 1 1 = nI 8) (hls : lsX2 ds cm n e) (hn8 : n ≤ 8) (hbd : (n = 8 ∧ o = 0) ∨ (n < 8 ∧ bdX2 ty bt a o)) (hp64 : p % 64 = 32) (hp42 : p ≠ 32) (hpn : ds p = none) (htn : ds 97 = none) :
    CnX l yX1_next (ws_ yX1_next cX1_next 1 none) 9 2 10 [.ref (ad 1)] (PicH x) (KC x) (hx_A x) (ad, ds, cm) (TnW 1 97 (fun r => r = p) ad ds cm (nI (a + o))) := by
  obtain ⟨q, N, hL, hn, hq⟩ := hls
  refine cnx_start (own := RX1) rfl (Nat.le_of_ble_eq_true rfl) rfl (fun g hgl hA F hX => ?_)
  refine Wd.eql (lv' := [(0, .ref (ad 1))]) rfl ?_
  refine ro_aload_n F dX1_next_0 0 rfl ?_
  refine hh_get F F.k.1 in_X2 (F.k.c rfl) 1 (hds 1 _ rfl) 6 (by decide) qX1_12 (fun _ h => h) (Nat.le_of_ble_eq_true rfl) (v := .ref (ad 32)) rfl dX1_next_1 ?_
  refine cl_size F hA hL hn cwX1_55 (by decide) (by decide) (by decide) (Nat.le_of_ble_eq_true rfl) dX1_next_4 ?_
  refine ro_aload_n F dX1_next_7 0 rfl ?_
  refine hh_get F F.k.1 in_X2 (F.k.c rfl) 1 (hds 1 _ rfl) 1 (by decide) qX1_22 (fun _ h => h) (Nat.le_of_ble_eq_true rfl) (v := .int (nI 8)) (congrArg Value.int hmo) dX1_next_8 ?_
  refine ro_icmp_neN (tgt := 26) F dX1_next_11 (by decide) (by omega) (by decide) (fun z => ?_) (fun z => ?_)
  · rcases hbd with c | ⟨-, c⟩
    · exact absurd c.1 z
    refine ro_aload_n F dX1_next_26 0 rfl ?_
    refine hh_get F F.k.1 in_X2 (F.k.c rfl) 1 (hds 1 _ rfl) 6 (by decide) qX1_12 (fun _ h => h) (Nat.le_of_ble_eq_true rfl) (v := .ref (ad 32)) rfl dX1_next_27 ?_
    refine ro_aload_n F dX1_next_30 0 rfl ?_
    refine ca_X (rest := [.ref (ad 32)]) (by rw [hA]; exact KC_st x) F (fun q hq => by rw [hA]; exact hq) (mexX2_part (gx_l g) x ad ds cm hds ty a p o bt hB hat ha c hp64 hpn htn) q555 q82 (iv_sel (owner := RX1) (N := 0) (As := []) F q435 q437 (va_Decl.abs (F.k.2.2.2.2.2.2.1.1 _ (by decide))) q553 q554 (by decide +kernel) (fun H _ hP _ => hh_recv F.k.1 (hds 1 _ rfl) (F.k.c rfl) H hP) rfl rfl dX1_next_31) (by decide) (by decide) (by decide) (by decide) (Nat.le_of_ble_eq_true rfl) (fun t w' hp => ?_)
    exact wt_out F hX (by decide) (by decide) hp
  · rcases hbd with c | ⟨c, -⟩
    · rw [c.2] at hX
      exact tornX1_X2 x ad ds cm (fun r => r = p) F hA hX hds hat htn (by decide) (by decide) (by decide) rfl dX1_next_14 dX1_next_17 dX1_next_18 dX1_next_19 dX1_next_22 dX1_next_25
    · omega
end Q2
