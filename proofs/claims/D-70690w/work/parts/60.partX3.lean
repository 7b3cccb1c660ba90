/-! Board.part -/
section Q2
variable (l : Launch) (x : Hx) (ad : Nat → Nat) (ds : Nat → Option Lay) (cm : Mem)

set_option maxHeartbeats 4000000 in
theorem metX3_part_2 (hds : FixD ds) (ty a p : Nat) (bt : Nat → Nat) (hB : TxB cm 2 41 23 ty bt) (hat : cm 2 3 = nI a) (hok : okX3 ty bt a) (hp64 : p % 64 = 42) (hp42 : p ≠ 42) (hpn : ds p = none) :
    Cn l yX3_part_2 (ws_ yX3_part_2 cX3_part_2 2 (some (.object "InterestTaken$Partner"))) 7 1 3 [.ref (ad 2)] (PicH x) (KC x) (hx_A x) (ad, ds, cm) (fun rv_ w_ => ∃ ad' ds' cm', w_ = (ad', ds', cm') ∧ rv_ = some (.ref (ad' p)) ∧ TkS 2 (fun r => r = p) ad ds cm ad' ds' cm' ∧ cm' 2 3 = nI (a + 2) ∧ elX3 ds' cm' p bt a) := by
  have hb : ∀ j, j < ty → bt j < 256 := fun j hj => (hB.2.2 j hj).1
  obtain ⟨o1, o3⟩ := hok
  refine cn_a (own := RX3) (Or.inl ⟨_, rfl⟩) rfl (Nat.le_of_ble_eq_true rfl) rfl (fun g hgl hA F hret => ?_)
  refine Wd.eql (lv' := [(0, .ref (ad 2))]) rfl ?_
  refine ro_aload_n F dX3_part_2_0 0 rfl ?_
  refine ca_R (rest := []) (by rw [hA]; exact KC_st x) F (fun q hq => by rw [hA]; exact hq) (metX1_figure_X3 (gx_l g) x ad ds cm hds ty a bt hB hat o1.1 (dg_t hb o1).2) q450 q81 (iv_sel (owner := RX1) (N := 0) (As := []) F q445 q446 (va_Decl.of (F.ts _ q449) (F.ts _ q450)) q448 q449 (by decide +kernel) (fun H _ hP _ => hh_recv F.k.1 (hds 2 _ rfl) (F.k.c rfl) H hP) rfl rfl dX3_part_2_1) (by decide) (by decide) (by decide) (by decide) (Nat.le_of_ble_eq_true rfl) (fun v w' hp => ?_)
  rw [hp.1, hp.2, (dg_t hb o1).1]
  refine ro_istore_n (lv' := [(0, .ref (ad 2)), (1, .int (nI (bt a - 48)))]) F dX3_part_2_4 (Nat.le_of_ble_eq_true rfl) [1, 0] rfl ?_
  have hB2 := hB.at (by decide) (nI (a + 1))
  generalize hc2 : m2 cm 2 3 (nI (a + 1)) = c2 at hB2
  have hc23 : c2 2 3 = nI (a + 1) := by rw [← hc2, m2_self]
  refine hh_new F F.k.1 in_X4 tyX4 tyX4_ok (F.k.c (i := 4) rfl) q544 q198 q87 p (by omega) hpn [none, none] (fun r hr => by simp at hr) (fun j hj => ?_) (by decide) (by decide) dX3_part_2_5 (fun h => ?_)
  · rcases (by omega : j = 0 ∨ j = 1) with e | e <;> subst e
    · show Value.int 0 = Value.int (z0 c2 p p 0); rw [z0_s]
    · show Value.int 0 = Value.int (z0 c2 p p 1); rw [z0_s]
  have fx1 : FixD (up1 ds p (some (.inl (4, [none, none])))) := hds.up (fix_no (by omega))
  have e1 : up1 ad p h 2 = ad 2 := up1_n _ _ (by omega)
  refine ro_dup F dX3_part_2_8 rfl ?_
  refine ro_iload_n F dX3_part_2_9 1 rfl ?_
  refine ro_aload_n F dX3_part_2_10 0 rfl ?_
  rw [← e1]
  generalize hac : up1 ad p h = ac at e1
  have hB3 : TxB (z0 c2 p) 2 41 23 ty bt := hB2.z (by omega) (by omega)
  have hc33 : z0 c2 p 2 3 = nI (a + 1) := by rw [z0_n _ (by omega)]; exact hc23
  refine ca_R (rest := [.int (nI (bt a - 48)), .ref (ac p), .ref (ac p)]) (by rw [hA]; exact KC_st x) F (fun q hq => by rw [hA]; exact hq) (metX1_topic_X3 (gx_l g) x ac _ _ fx1 ty (a + 1) bt hB3 hc33 o3.1 (lt_t hb o3).2) q550 q81 (iv_sel (owner := RX1) (N := 0) (As := []) F q545 q546 (va_Decl.of (F.ts _ q549) (F.ts _ q550)) q548 q549 (by decide +kernel) (fun H _ hP _ => hh_recv F.k.1 (fx1 2 _ rfl) (F.k.c rfl) H hP) rfl rfl dX3_part_2_11) (by decide) (by decide) (by decide) (by decide) (Nat.le_of_ble_eq_true rfl) (fun v' w' hp => ?_)
  rw [hp.1, hp.2, (lt_t hb o3).1]
  refine ca_I (N := 2) (As := [.int (nI (bt a - 48)), .int (nI (bt (a + 1) - 97))]) (rest := [.ref (ac p)]) (by rw [hA]; exact KC_st x) F (fun q hq => by rw [hA]; exact hq) (metX4_init (gx_l g) x ac _ _ p (by omega) (up1_s _ _ _) (nI (bt a - 48)) (nI (bt (a + 1) - 97))) q201 q87 q552 q200 rfl (by decide +kernel) rfl (by decide) (by decide) (by decide) (by decide) rfl (Nat.le_of_ble_eq_true rfl) dX3_part_2_14 (fun v' w' hp => ?_)
  rw [hp.1, hp.2]
  refine hret _ _ _ _ _ _ (by decide) (by decide) dX3_part_2_17 ⟨_, _, _, rfl, rfl, ⟨fun r hr => by rw [← hac]; exact up1_n _ _ hr, fun r hr => by rw [up1_n _ _ hr], fun r j hr hj => ?_⟩, ?_, ?_, ?_, ?_⟩
  · have hr' : r ≠ p := hr
    rw [m2_f _ _ hr', m2_f _ _ hr']
    by_cases hr1 : r = 2
    · subst hr1
      have hj3 : j ≠ 3 := fun z => hj ⟨rfl, z⟩
      rw [m2_i _ _ hj3, z0_n _ (by omega), ← hc2, m2_i _ _ hj3]
    · rw [m2_f _ _ hr1, z0_n _ hr', ← hc2, m2_f _ _ hr1]
  · rw [m2_f _ _ (by omega), m2_f _ _ (by omega), m2_self]
  · rw [up1_s]
  · rw [m2_i _ _ (by decide), m2_self]
  · exact m2_self _ _ _ _
set_option maxHeartbeats 4000000 in
theorem mexX3_part_2 (hds : FixD ds) (ty a p o : Nat) (bt : Nat → Nat) (hB : TxB cm 2 41 23 ty bt) (hat : cm 2 3 = nI a) (ha : a ≤ ty) (hbd : bdX3 ty bt a o) (hp64 : p % 64 = 42) (hp42 : p ≠ 42) (hpn : ds p = none) (hn : ds 107 = none) :
    CnX l yX3_part_2 (ws_ yX3_part_2 cX3_part_2 2 (some (.object "InterestTaken$Partner"))) 7 2 10 [.ref (ad 2)] (PicH x) (KC x) (hx_A x) (ad, ds, cm) (TnW 2 107 (fun r => r = p) ad ds cm (nI (a + o))) := by
  have hb : ∀ j, j < ty → bt j < 256 := fun j hj => (hB.2.2 j hj).1
  refine cnx_start (own := RX3) rfl (Nat.le_of_ble_eq_true rfl) rfl (fun g hgl hA F hX => ?_)
  refine Wd.eql (lv' := [(0, .ref (ad 2))]) rfl ?_
  refine ro_aload_n F dX3_part_2_0 0 rfl ?_
  rcases hbd with ⟨eo, o1⟩ | ⟨eo, o1, o3⟩
  · subst eo
    refine ca_X (rest := []) (by rw [hA]; exact KC_st x) F (fun q hq => by rw [hA]; exact hq) (mexX1_figure_X3 (gx_l g) x ad ds cm hds ty a bt hB hat ha (dg_f hb o1) hn (fun r => r = p)) q450 q81 (iv_sel (owner := RX1) (N := 0) (As := []) F q445 q446 (va_Decl.of (F.ts _ q449) (F.ts _ q450)) q448 q449 (by decide +kernel) (fun H _ hP _ => hh_recv F.k.1 (hds 2 _ rfl) (F.k.c rfl) H hP) rfl rfl dX3_part_2_1) (by decide) (by decide) (by decide) (by decide) (Nat.le_of_ble_eq_true rfl) (fun t w' hp => ?_)
    exact wt_out F hX (by decide) (by decide) hp
  · subst eo
    refine ca_R (rest := []) (by rw [hA]; exact KC_st x) F (fun q hq => by rw [hA]; exact hq) (metX1_figure_X3 (gx_l g) x ad ds cm hds ty a bt hB hat o1.1 (dg_t hb o1).2) q450 q81 (iv_sel (owner := RX1) (N := 0) (As := []) F q445 q446 (va_Decl.of (F.ts _ q449) (F.ts _ q450)) q448 q449 (by decide +kernel) (fun H _ hP _ => hh_recv F.k.1 (hds 2 _ rfl) (F.k.c rfl) H hP) rfl rfl dX3_part_2_1) (by decide) (by decide) (by decide) (by decide) (Nat.le_of_ble_eq_true rfl) (fun v w' hp => ?_)
    rw [hp.1, hp.2, (dg_t hb o1).1]
    refine ro_istore_n (lv' := [(0, .ref (ad 2)), (1, .int (nI (bt a - 48)))]) F dX3_part_2_4 (Nat.le_of_ble_eq_true rfl) [1, 0] rfl ?_
    have hB2 := hB.at (by decide) (nI (a + 1))
    generalize hc2 : m2 cm 2 3 (nI (a + 1)) = c2 at hB2
    have hc23 : c2 2 3 = nI (a + 1) := by rw [← hc2, m2_self]
    refine hh_new F F.k.1 in_X4 tyX4 tyX4_ok (F.k.c (i := 4) rfl) q544 q198 q87 p (by omega) hpn [none, none] (fun r hr => by simp at hr) (fun j hj => ?_) (by decide) (by decide) dX3_part_2_5 (fun h => ?_)
    · rcases (by omega : j = 0 ∨ j = 1) with e | e <;> subst e
      · show Value.int 0 = Value.int (z0 c2 p p 0); rw [z0_s]
      · show Value.int 0 = Value.int (z0 c2 p p 1); rw [z0_s]
    have fx1 : FixD (up1 ds p (some (.inl (4, [none, none])))) := hds.up (fix_no (by omega))
    have e1 : up1 ad p h 2 = ad 2 := up1_n _ _ (by omega)
    refine ro_dup F dX3_part_2_8 rfl ?_
    refine ro_iload_n F dX3_part_2_9 1 rfl ?_
    refine ro_aload_n F dX3_part_2_10 0 rfl ?_
    rw [← e1]
    have hB3 : TxB (z0 c2 p) 2 41 23 ty bt := hB2.z (by omega) (by omega)
    have hc33 : z0 c2 p 2 3 = nI (a + 1) := by rw [z0_n _ (by omega)]; exact hc23
    refine ca_X (rest := [.int (nI (bt a - 48)), .ref (up1 ad p h p), .ref (up1 ad p h p)]) (by rw [hA]; exact KC_st x) F (fun q hq => by rw [hA]; exact hq) (mexX1_topic_X3 (gx_l g) x (up1 ad p h) _ _ fx1 ty (a + 1) bt hB3 hc33 (by have := o1.1; omega) (lt_f hb o3) (by rw [up1_n _ _ (by omega)]; exact hn) (fun r => r = p)) q550 q81 (iv_sel (owner := RX1) (N := 0) (As := []) F q545 q546 (va_Decl.of (F.ts _ q549) (F.ts _ q550)) q548 q549 (by decide +kernel) (fun H _ hP _ => hh_recv F.k.1 (fx1 2 _ rfl) (F.k.c rfl) H hP) rfl rfl dX3_part_2_11) (by decide) (by decide) (by decide) (by decide) (Nat.le_of_ble_eq_true rfl) (fun t w' hp => ?_)
    obtain ⟨ad', ds', cm', q1, q2, q3⟩ := hp
    refine wt_out F hX (by decide) (by decide) ⟨ad', ds', cm', q1, TkS.tr ⟨fun r hr => up1_n _ _ (fun z => hr (Or.inr z)), fun r hr => up1_n _ _ (fun z => hr (Or.inr z)), fun r j hr hj => ?_⟩ q2, q3⟩
    have hr' : r ≠ p := fun z => hr (Or.inr z)
    rw [z0_n _ hr', ← hc2]
    by_cases hr1 : r = 2
    · subst hr1
      rw [m2_i _ _ (fun z => hj ⟨rfl, z⟩)]
    · rw [m2_f _ _ hr1]
end Q2
