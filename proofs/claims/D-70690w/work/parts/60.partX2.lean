/-! Savers.part -/
section Q2
variable (l : Launch) (x : Hx) (ad : Nat → Nat) (ds : Nat → Option Lay) (cm : Mem)

set_option maxHeartbeats 4000000 in
theorem metX2_part_2 (hds : FixD ds) (ty a p : Nat) (bt : Nat → Nat) (hB : TxB cm 1 31 31 ty bt) (hat : cm 1 3 = nI a) (hok : okX2 ty bt a) (hp64 : p % 64 = 32) (hpn : ds p = none) :
    Cn l yX2_part_2 (ws_ yX2_part_2 cX2_part_2 3 (some (.object "InterestTaken$Saver"))) 7 1 3 [.ref (ad 1)] (PicH x) (KC x) (hx_A x) (ad, ds, cm) (fun rv_ w_ => ∃ ad' ds' cm', w_ = (ad', ds', cm') ∧ rv_ = some (.ref (ad' p)) ∧ TkS 1 (fun r => r = p) ad ds cm ad' ds' cm' ∧ cm' 1 3 = nI (a + 3) ∧ elX2 ds' cm' p bt a) := by
  have hb : ∀ j, j < ty → bt j < 256 := fun j hj => (hB.2.2 j hj).1
  obtain ⟨o1, o2, o3⟩ := hok
  refine cn_a (own := RX2) (Or.inl ⟨_, rfl⟩) rfl (Nat.le_of_ble_eq_true rfl) rfl (fun g hgl hA F hret => ?_)
  refine Wd.eql (lv' := [(0, .ref (ad 1))]) rfl ?_
  refine ro_aload_n F dX2_part_2_0 0 rfl ?_
  refine ca_R (rest := []) (by rw [hA]; exact KC_st x) F (fun q hq => by rw [hA]; exact hq) (metX1_figure_X2 (gx_l g) x ad ds cm hds ty a bt hB hat o1.1 (dg_t hb o1).2) q450 q81 (iv_sel (owner := RX1) (N := 0) (As := []) F q560 q561 (va_Decl.of (F.ts _ q449) (F.ts _ q450)) q562 q449 (by decide +kernel) (fun H _ hP _ => hh_recv F.k.1 (hds 1 _ rfl) (F.k.c rfl) H hP) rfl rfl dX2_part_2_1) (by decide) (by decide) (by decide) (by decide) (Nat.le_of_ble_eq_true rfl) (fun v w' hp => ?_)
  rw [hp.1, hp.2, (dg_t hb o1).1]
  refine ro_istore_n (lv' := [(0, .ref (ad 1)), (1, .int (nI (bt a - 48)))]) F dX2_part_2_4 (Nat.le_of_ble_eq_true rfl) [1, 0] rfl ?_
  refine hh_getsN F hA (q := 60) F.k.2.2.2.1.1 (by decide) F.k.2.2.1.2.2.2.2.2.2.2 dX2_part_2_5 ?_
  refine ro_aload_n F dX2_part_2_8 0 rfl ?_
  refine ks_ldc F F.k.2.2.2.2.1.2.2.2.1 dX2_part_2_9 ?_
  have hB1 := hB.at (by decide) (nI (a + 1))
  refine ca_R (rest := [.ref (ad 60)]) (by rw [hA]; exact KC_st x) F (fun q hq => by rw [hA]; exact hq) (metX1_passes_X2 (gx_l g) x ad ds _ hds ty (a + 1) 3 bt (by decide) hB1 (m2_self _ _ _ _) o2.1 (dk_t hb o2).2) q457 q81 (iv_sel (owner := RX1) (N := 1) (As := [.ref (hx_sa x (64000 + 3))]) F q566 q567 (va_Decl.of (F.ts _ q453) (F.ts _ q457)) q569 q453 (by decide +kernel) (fun H _ hP _ => hh_recv F.k.1 (hds 1 _ rfl) (F.k.c rfl) H hP) rfl rfl dX2_part_2_11) (by decide) (by decide) (by decide) (by decide) (Nat.le_of_ble_eq_true rfl) (fun v w' hp => ?_)
  rw [hp.1, hp.2, (dk_t hb o2).1]
  have hv : (if bt (a + 1) = 107 then 1 else 0) < 2 := by split <;> decide
  have hB2 := hB1.at (by decide) (nI (a + 1 + 1))
  have hway : ∃ L, fixL (60 + 64 * ((if bt (a + 1) = 107 then 1 else 0) + 1)) = some L := by split <;> exact ⟨_, rfl⟩
  generalize hvv : (if bt (a + 1) = 107 then 1 else 0) = v at hv hway
  refine hh_ldA F F.k.1 60 7 2 (hds 60 _ rfl) (by decide) rfl (by decide) (q := 60 + 64 * (v + 1)) hv dX2_part_2_14 (rw_at hv) ?_
  refine ro_astore_n (lv' := [(0, .ref (ad 1)), (1, .int (nI (bt a - 48))), (2, .ref (ad (60 + 64 * (v + 1))))]) F dX2_part_2_15 (Nat.le_of_ble_eq_true rfl) [1, 2, 0] rfl ?_
  generalize hc2 : m2 (m2 cm 1 3 (nI (a + 1))) 1 3 (nI (a + 1 + 1)) = c2 at hB2
  have hc23 : c2 1 3 = nI (a + 2) := by rw [← hc2, m2_self]
  refine hh_new F F.k.1 in_X8 tyX8 tyX8_ok (F.k.c (i := 5) rfl) q570 q571 q99 p (by omega) hpn [none, some none, none] (fun r hr => by simp at hr) (fun j hj => ?_) (by decide) (by decide) dX2_part_2_16 (fun h => ?_)
  · rcases (by omega : j = 0 ∨ j = 1 ∨ j = 2) with e | e | e <;> subst e
    · show Value.int 0 = Value.int (z0 c2 p p 0); rw [z0_s]
    · rfl
    · show Value.int 0 = Value.int (z0 c2 p p 2); rw [z0_s]
  have fx1 : FixD (up1 ds p (some (.inl (5, [none, some none, none])))) := hds.up (fix_no (by omega))
  have e1 : up1 ad p h 1 = ad 1 := up1_n _ _ (by omega)
  have e2 : up1 ad p h (60 + 64 * (v + 1)) = ad (60 + 64 * (v + 1)) := up1_n _ _ (by omega)
  refine ro_dup F dX2_part_2_19 rfl ?_
  refine ro_iload_n F dX2_part_2_20 1 rfl ?_
  refine ro_aload_n F dX2_part_2_21 2 rfl ?_
  refine ro_aload_n F dX2_part_2_22 0 rfl ?_
  rw [← e1, ← e2]
  generalize hac : up1 ad p h = ac at e1 e2
  have hB3 : TxB (z0 c2 p) 1 31 31 ty bt := hB2.z (by omega) (by omega)
  have hc33 : z0 c2 p 1 3 = nI (a + 2) := by rw [z0_n _ (by omega)]; exact hc23
  refine ca_R (rest := [.ref (ac (60 + 64 * (v + 1))), .int (nI (bt a - 48)), .ref (ac p), .ref (ac p)]) (by rw [hA]; exact KC_st x) F (fun q hq => by rw [hA]; exact hq) (metX1_topic_X2 (gx_l g) x ac _ _ fx1 ty (a + 2) bt hB3 hc33 o3.1 (lt_t hb o3).2) q550 q81 (iv_sel (owner := RX1) (N := 0) (As := []) F q572 q573 (va_Decl.of (F.ts _ q549) (F.ts _ q550)) q574 q549 (by decide +kernel) (fun H _ hP _ => hh_recv F.k.1 (fx1 1 _ rfl) (F.k.c rfl) H hP) rfl rfl dX2_part_2_23) (by decide) (by decide) (by decide) (by decide) (Nat.le_of_ble_eq_true rfl) (fun v' w' hp => ?_)
  rw [hp.1, hp.2, (lt_t hb o3).1]
  refine ca_I (N := 3) (As := [.int (nI (bt a - 48)), .ref (ac (60 + 64 * (v + 1))), .int (nI (bt (a + 2) - 97))]) (rest := [.ref (ac p)]) (by rw [hA]; exact KC_st x) F (fun q hq => by rw [hA]; exact hq) (metX8_init (gx_l g) x ac _ _ p (60 + 64 * (v + 1)) (by omega) (up1_s _ _ _) ⟨_, fx1 _ _ hway.choose_spec⟩ (nI (bt a - 48)) (nI (bt (a + 2) - 97))) q577 q99 q575 q576 rfl (by decide +kernel) rfl (by decide) (by decide) (by decide) (by decide) rfl (Nat.le_of_ble_eq_true rfl) dX2_part_2_26 (fun v' w' hp => ?_)
  rw [hp.1, hp.2]
  refine hret _ _ _ _ _ _ (by decide) (by decide) dX2_part_2_29 ⟨_, _, _, rfl, rfl, ⟨fun r hr => by rw [← hac]; exact up1_n _ _ hr, fun r hr => by rw [up1_n _ _ hr, up1_n _ _ hr], fun r j hr hj => ?_⟩, ?_, ?_, ?_, ?_⟩
  · have hr' : r ≠ p := hr
    rw [m2_f _ _ hr', m2_f _ _ hr']
    by_cases hr1 : r = 1
    · subst hr1
      have hj3 : j ≠ 3 := fun z => hj ⟨rfl, z⟩
      rw [m2_i _ _ hj3, z0_n _ (by omega), ← hc2, m2_i _ _ hj3, m2_i _ _ hj3]
    · rw [m2_f _ _ hr1, z0_n _ hr', ← hc2, m2_f _ _ hr1, m2_f _ _ hr1]
  · rw [m2_f _ _ (by omega), m2_f _ _ (by omega), m2_self]
  · rw [up1_s, hvv]
  · rw [m2_i _ _ (by decide), m2_self]
  · exact m2_self _ _ _ _
set_option maxHeartbeats 4000000 in
theorem mexX2_part_2 (hds : FixD ds) (ty a p o : Nat) (bt : Nat → Nat) (hB : TxB cm 1 31 31 ty bt) (hat : cm 1 3 = nI a) (ha : a ≤ ty) (hbd : bdX2 ty bt a o) (hp64 : p % 64 = 32) (hpn : ds p = none) (hn : ds 97 = none) :
    CnX l yX2_part_2 (ws_ yX2_part_2 cX2_part_2 3 (some (.object "InterestTaken$Saver"))) 7 2 10 [.ref (ad 1)] (PicH x) (KC x) (hx_A x) (ad, ds, cm) (TnW 1 97 (fun r => r = p) ad ds cm (nI (a + o))) := by
  have hb : ∀ j, j < ty → bt j < 256 := fun j hj => (hB.2.2 j hj).1
  have hB1 := hB.at (by decide) (nI (a + 1))
  refine cnx_start (own := RX2) rfl (Nat.le_of_ble_eq_true rfl) rfl (fun g hgl hA F hX => ?_)
  refine Wd.eql (lv' := [(0, .ref (ad 1))]) rfl ?_
  refine ro_aload_n F dX2_part_2_0 0 rfl ?_
  rcases hbd with ⟨eo, o1⟩ | ⟨eo, o1, hr⟩ | ⟨eo, o1, o2, o3⟩
  · subst eo
    refine ca_X (rest := []) (by rw [hA]; exact KC_st x) F (fun q hq => by rw [hA]; exact hq) (mexX1_figure_X2 (gx_l g) x ad ds cm hds ty a bt hB hat ha (dg_f hb o1) hn (fun r => r = p)) q450 q81 (iv_sel (owner := RX1) (N := 0) (As := []) F q560 q561 (va_Decl.of (F.ts _ q449) (F.ts _ q450)) q562 q449 (by decide +kernel) (fun H _ hP _ => hh_recv F.k.1 (hds 1 _ rfl) (F.k.c rfl) H hP) rfl rfl dX2_part_2_1) (by decide) (by decide) (by decide) (by decide) (Nat.le_of_ble_eq_true rfl) (fun t w' hp => ?_)
    exact wt_out F hX (by decide) (by decide) hp
  all_goals
    refine ca_R (rest := []) (by rw [hA]; exact KC_st x) F (fun q hq => by rw [hA]; exact hq) (metX1_figure_X2 (gx_l g) x ad ds cm hds ty a bt hB hat o1.1 (dg_t hb o1).2) q450 q81 (iv_sel (owner := RX1) (N := 0) (As := []) F q560 q561 (va_Decl.of (F.ts _ q449) (F.ts _ q450)) q562 q449 (by decide +kernel) (fun H _ hP _ => hh_recv F.k.1 (hds 1 _ rfl) (F.k.c rfl) H hP) rfl rfl dX2_part_2_1) (by decide) (by decide) (by decide) (by decide) (Nat.le_of_ble_eq_true rfl) (fun v w' hp => ?_)
    rw [hp.1, hp.2, (dg_t hb o1).1]
    refine ro_istore_n (lv' := [(0, .ref (ad 1)), (1, .int (nI (bt a - 48)))]) F dX2_part_2_4 (Nat.le_of_ble_eq_true rfl) [1, 0] rfl ?_
    refine hh_getsN F hA (q := 60) F.k.2.2.2.1.1 (by decide) F.k.2.2.1.2.2.2.2.2.2.2 dX2_part_2_5 ?_
    refine ro_aload_n F dX2_part_2_8 0 rfl ?_
    refine ks_ldc F F.k.2.2.2.2.1.2.2.2.1 dX2_part_2_9 ?_
  · subst eo
    refine ca_X (rest := [.ref (ad 60)]) (by rw [hA]; exact KC_st x) F (fun q hq => by rw [hA]; exact hq) (mexX1_passes_X2 (gx_l g) x ad ds _ hds ty (a + 1) 3 bt (by decide) hB1 (m2_self _ _ _ _) (by have := o1.1; omega) (dk_f hb hr) hn (fun r => r = p)) q457 q81 (iv_sel (owner := RX1) (N := 1) (As := [.ref (hx_sa x (64000 + 3))]) F q566 q567 (va_Decl.of (F.ts _ q453) (F.ts _ q457)) q569 q453 (by decide +kernel) (fun H _ hP _ => hh_recv F.k.1 (hds 1 _ rfl) (F.k.c rfl) H hP) rfl rfl dX2_part_2_11) (by decide) (by decide) (by decide) (by decide) (Nat.le_of_ble_eq_true rfl) (fun t w' hp => ?_)
    obtain ⟨ad', ds', cm', q1, q2, q3⟩ := hp
    exact wt_out F hX (by decide) (by decide) ⟨ad', ds', cm', q1, tk_at.tr q2, q3⟩
  · subst eo
    refine ca_R (rest := [.ref (ad 60)]) (by rw [hA]; exact KC_st x) F (fun q hq => by rw [hA]; exact hq) (metX1_passes_X2 (gx_l g) x ad ds _ hds ty (a + 1) 3 bt (by decide) hB1 (m2_self _ _ _ _) o2.1 (dk_t hb o2).2) q457 q81 (iv_sel (owner := RX1) (N := 1) (As := [.ref (hx_sa x (64000 + 3))]) F q566 q567 (va_Decl.of (F.ts _ q453) (F.ts _ q457)) q569 q453 (by decide +kernel) (fun H _ hP _ => hh_recv F.k.1 (hds 1 _ rfl) (F.k.c rfl) H hP) rfl rfl dX2_part_2_11) (by decide) (by decide) (by decide) (by decide) (Nat.le_of_ble_eq_true rfl) (fun v w' hp => ?_)
    rw [hp.1, hp.2, (dk_t hb o2).1]
    have hv : (if bt (a + 1) = 107 then 1 else 0) < 2 := by split <;> decide
    have hB2 := hB1.at (by decide) (nI (a + 1 + 1))
    generalize hvv : (if bt (a + 1) = 107 then 1 else 0) = v at hv
    refine hh_ldA F F.k.1 60 7 2 (hds 60 _ rfl) (by decide) rfl (by decide) (q := 60 + 64 * (v + 1)) hv dX2_part_2_14 (rw_at hv) ?_
    refine ro_astore_n (lv' := [(0, .ref (ad 1)), (1, .int (nI (bt a - 48))), (2, .ref (ad (60 + 64 * (v + 1))))]) F dX2_part_2_15 (Nat.le_of_ble_eq_true rfl) [1, 2, 0] rfl ?_
    generalize hc2 : m2 (m2 cm 1 3 (nI (a + 1))) 1 3 (nI (a + 1 + 1)) = c2 at hB2
    have hc23 : c2 1 3 = nI (a + 2) := by rw [← hc2, m2_self]
    refine hh_new F F.k.1 in_X8 tyX8 tyX8_ok (F.k.c (i := 5) rfl) q570 q571 q99 p (by omega) hpn [none, some none, none] (fun r hr => by simp at hr) (fun j hj => ?_) (by decide) (by decide) dX2_part_2_16 (fun h => ?_)
    · rcases (by omega : j = 0 ∨ j = 1 ∨ j = 2) with e | e | e <;> subst e
      · show Value.int 0 = Value.int (z0 c2 p p 0); rw [z0_s]
      · rfl
      · show Value.int 0 = Value.int (z0 c2 p p 2); rw [z0_s]
    have fx1 : FixD (up1 ds p (some (.inl (5, [none, some none, none])))) := hds.up (fix_no (by omega))
    have e1 : up1 ad p h 1 = ad 1 := up1_n _ _ (by omega)
    refine ro_dup F dX2_part_2_19 rfl ?_
    refine ro_iload_n F dX2_part_2_20 1 rfl ?_
    refine ro_aload_n F dX2_part_2_21 2 rfl ?_
    refine ro_aload_n F dX2_part_2_22 0 rfl ?_
    rw [← e1]
    have hB3 : TxB (z0 c2 p) 1 31 31 ty bt := hB2.z (by omega) (by omega)
    have hc33 : z0 c2 p 1 3 = nI (a + 2) := by rw [z0_n _ (by omega)]; exact hc23
    refine ca_X (rest := [.ref (ad (60 + 64 * (v + 1))), .int (nI (bt a - 48)), .ref (up1 ad p h p), .ref (up1 ad p h p)]) (by rw [hA]; exact KC_st x) F (fun q hq => by rw [hA]; exact hq) (mexX1_topic_X2 (gx_l g) x (up1 ad p h) _ _ fx1 ty (a + 2) bt hB3 hc33 (by have := o2.1; omega) (lt_f hb o3) (by rw [up1_n _ _ (by omega)]; exact hn) (fun r => r = p)) q550 q81 (iv_sel (owner := RX1) (N := 0) (As := []) F q572 q573 (va_Decl.of (F.ts _ q549) (F.ts _ q550)) q574 q549 (by decide +kernel) (fun H _ hP _ => hh_recv F.k.1 (fx1 1 _ rfl) (F.k.c rfl) H hP) rfl rfl dX2_part_2_23) (by decide) (by decide) (by decide) (by decide) (Nat.le_of_ble_eq_true rfl) (fun t w' hp => ?_)
    obtain ⟨ad', ds', cm', q1, q2, q3⟩ := hp
    refine wt_out F hX (by decide) (by decide) ⟨ad', ds', cm', q1, TkS.tr ⟨fun r hr => up1_n _ _ (fun z => hr (Or.inr z)), fun r hr => up1_n _ _ (fun z => hr (Or.inr z)), fun r j hr hj => ?_⟩ q2, q3⟩
    have hr' : r ≠ p := fun z => hr (Or.inr z)
    rw [z0_n _ hr', ← hc2]
    by_cases hr1 : r = 1
    · subst hr1
      have hj3 : j ≠ 3 := fun z => hj ⟨rfl, z⟩
      rw [m2_i _ _ hj3, m2_i _ _ hj3]
    · rw [m2_f _ _ hr1, m2_f _ _ hr1]
end Q2
