/-! ArrayList over the heap by places: size, isEmpty, get -/
section AL
variable {x : Hx} {ad : Nat → Nat} {ds : Nat → Option Lay} {cm : Mem}
theorem al_same {U : State} {own ref n d : String} : ∀ z, U.fieldFound? ref n d = some z → U.fieldFound? ref n d = some z := fun _ h => h
set_option maxHeartbeats 4000000 in
theorem metJ2_size (l : Launch) (x : Hx) (ad : Nat → Nat) (ds : Nat → Option Lay) (cm : Mem) (a q N n : Nat) (e : Nat → Nat) (hL : LsD ds a q N n e) (hn : cm a 2 = nI n) : Cn l yJ2_size (ws_ yJ2_size cJ2_size 1 (some .int)) 1 0 0 [.ref (ad a)] (PicH x) (KC x) (hx_A x) (ad, ds, cm) (fun rv_ w_ => rv_ = some (.int (nI n)) ∧ w_ = (ad, ds, cm)) := by
  refine cn_i (own := RJ2) rfl (Nat.le_of_ble_eq_true rfl) rfl (fun g hgl hA F hret => ?_)
  refine Wd.eql (lv' := [(0, .ref (ad a))]) rfl ?_
  refine ro_aload_n F dJ2_size_0 0 rfl ?_
  refine hh_get F F.k.1 in_J2 (F.k.c rfl) a hL.1 2 (by decide) qJ2_48 (fun _ h => h) (Nat.le_of_ble_eq_true rfl) (v := .int (nI n)) (congrArg Value.int hn) dJ2_size_1 ?_
  exact hret _ _ _ _ _ _ (Nat.le_refl _) (Nat.le_refl _) dJ2_size_4 rfl ⟨rfl, rfl⟩
set_option maxHeartbeats 4000000 in
theorem metJ2_isEmpty (l : Launch) (x : Hx) (ad : Nat → Nat) (ds : Nat → Option Lay) (cm : Mem) (a q N n : Nat) (e : Nat → Nat) (hL : LsD ds a q N n e) (hn : cm a 2 = nI n) : Cn l yJ2_isEmpty (ws_ yJ2_isEmpty cJ2_isEmpty 1 (some .boolean)) 1 0 0 [.ref (ad a)] (PicH x) (KC x) (hx_A x) (ad, ds, cm) (fun rv_ w_ => rv_ = some (.int (b2 (n = 0))) ∧ w_ = (ad, ds, cm)) := by
  have hn10 : n < 2 ^ 31 := by have h1 := hL.2.2.1; have h2 := hL.2.2.2; omega
  refine cn_i (own := RJ2) rfl (Nat.le_of_ble_eq_true rfl) rfl (fun g hgl hA F hret => ?_)
  refine Wd.eql (lv' := [(0, .ref (ad a))]) rfl ?_
  refine ro_aload_n F dJ2_isEmpty_0 0 rfl ?_
  refine hh_get F F.k.1 in_J2 (F.k.c rfl) a hL.1 2 (by decide) qJ2_48 (fun _ h => h) (Nat.le_of_ble_eq_true rfl) (v := .int (nI n)) (congrArg Value.int hn) dJ2_isEmpty_1 ?_
  refine ro_if_neN (tgt := 11) F dJ2_isEmpty_4 (by decide) hn10 (fun c => ?_) (fun c => ?_)
  · refine ro_iconst (v := 0) F dJ2_isEmpty_11 (by decide) ?_
    exact hret _ _ _ _ _ _ (Nat.le_refl _) (Nat.le_refl _) dJ2_isEmpty_12 rfl ⟨by rw [b2_f c], rfl⟩
  · refine ro_iconst (v := 1) F dJ2_isEmpty_7 (by decide) ?_
    refine ro_goto (tgt := 12) F dJ2_isEmpty_8 (by decide) ?_
    exact hret _ _ _ _ _ _ (Nat.le_refl _) (Nat.le_refl _) dJ2_isEmpty_12 rfl ⟨by rw [b2_t c], rfl⟩
set_option maxHeartbeats 4000000 in
theorem metJ9_checkIndex (l : Launch) {α : Type} (Pic : α → Heap → Prop) (K : State → Prop) (A : Nat → Prop) (w : α) (i n : Nat) (h : i < n) (hn : n < 2 ^ 31) : Cn l yJ9_checkIndex (ws_ yJ9_checkIndex cJ9_checkIndex 3 (some .int)) 1 0 0 [.int (nI i), .int (nI n), .null] Pic K A w (fun rv_ w_ => rv_ = some (.int (nI i)) ∧ w_ = w) := by
  refine cn_i (own := RJ9) rfl (Nat.le_of_ble_eq_true rfl) rfl (fun g hgl hA F hret => ?_)
  refine Wd.eql (lv' := [(0, .int (nI i)), (1, .int (nI n)), (2, .null)]) rfl ?_
  refine ro_iload_n F dJ9_checkIndex_0 0 rfl ?_
  refine ro_if_lt (tgt := 9) F dJ9_checkIndex_1 (by decide) (fun c => absurd c (nI_pos (by omega))) (fun _ => ?_)
  refine ro_iload_n F dJ9_checkIndex_4 0 rfl ?_
  refine ro_iload_n F dJ9_checkIndex_5 1 rfl ?_
  refine ro_icmp_ltN (tgt := 16) F dJ9_checkIndex_6 (by decide) (by omega) hn (fun _ => ?_) (fun c => absurd c (by omega))
  refine ro_iload_n F dJ9_checkIndex_16 0 rfl ?_
  exact hret _ _ _ _ _ _ (Nat.le_refl _) (Nat.le_refl _) dJ9_checkIndex_17 rfl ⟨rfl, rfl⟩
set_option maxHeartbeats 4000000 in
theorem metJ13_checkIndex (l : Launch) {α : Type} (Pic : α → Heap → Prop) (K : State → Prop) (A : Nat → Prop) (hKs : Kst A K) (w : α) (i n : Nat) (h : i < n) (hn : n < 2 ^ 31) : Cn l yJ13_checkIndex (ws_ yJ13_checkIndex cJ13_checkIndex 2 (some .int)) 2 0 0 [.int (nI i), .int (nI n)] Pic K A w (fun rv_ w_ => rv_ = some (.int (nI i)) ∧ w_ = w) := by
  refine cn_i (own := RJ13) rfl (Nat.le_of_ble_eq_true rfl) rfl (fun g hgl hA F hret => ?_)
  refine Wd.eql (lv' := [(0, .int (nI i)), (1, .int (nI n))]) rfl ?_
  refine ro_iload_n F dJ13_checkIndex_0 0 rfl ?_
  refine ro_iload_n F dJ13_checkIndex_1 1 rfl ?_
  refine ro_null F dJ13_checkIndex_2 ?_
  refine Wd.eqs (st' := ([.int (nI i), .int (nI n), .null] : List Value).reverse ++ []) rfl ?_
  refine ca_S (N := 3) (by rw [hA]; exact hKs) F (fun q hq => by rw [hA]; exact hq) (metJ9_checkIndex (gx_l g) Pic K A w i n h hn) cwJ13_105 (by decide +kernel) rfl (Nat.le_of_ble_eq_true rfl) (Nat.le_of_ble_eq_true rfl) (Nat.le_refl _) (Nat.le_refl _) (Nat.le_of_ble_eq_true rfl) dJ13_checkIndex_3 (fun v w' hp => ?_)
  rw [hp.1, hp.2]
  exact hret _ _ _ _ _ _ (Nat.le_refl _) (Nat.le_refl _) dJ13_checkIndex_6 rfl ⟨rfl, rfl⟩
set_option maxHeartbeats 4000000 in
theorem metJ2_elementData (l : Launch) (x : Hx) (ad : Nat → Nat) (ds : Nat → Option Lay) (cm : Mem) (a q N n : Nat) (e : Nat → Nat) (hL : LsD ds a q N n e) (i : Nat) (hi : i < n) : Cn l yJ2_elementData (ws_ yJ2_elementData cJ2_elementData 2 (some (.object "java/lang/Object"))) 1 0 0 [.ref (ad a), .int (nI i)] (PicH x) (KC x) (hx_A x) (ad, ds, cm) (fun rv_ w_ => rv_ = some (.ref (ad (e i))) ∧ w_ = (ad, ds, cm)) := by
  refine cn_a (own := RJ2) (Or.inl ⟨_, rfl⟩) rfl (Nat.le_of_ble_eq_true rfl) rfl (fun g hgl hA F hret => ?_)
  refine Wd.eql (lv' := [(0, .ref (ad a)), (1, .int (nI i))]) rfl ?_
  refine ro_aload_n F dJ2_elementData_0 0 rfl ?_
  refine hh_get F F.k.1 in_J2 (F.k.c rfl) a hL.1 1 (by decide) qJ2_9 (fun _ h => h) (Nat.le_of_ble_eq_true rfl) (v := .ref (ad q)) rfl dJ2_elementData_1 ?_
  refine ro_iload_n F dJ2_elementData_4 1 rfl ?_
  have h1 := hL.2.2.1
  have h2 := hL.2.2.2
  refine hh_ldA F F.k.1 q 4 N hL.2.1 (by decide) rfl (by omega) (q := e i) (by omega) dJ2_elementData_5 (if_pos hi) ?_
  exact hret _ _ _ _ _ _ (Nat.le_refl _) (Nat.le_refl _) dJ2_elementData_6 ⟨rfl, rfl⟩
set_option maxHeartbeats 4000000 in
theorem metJ2_get (l : Launch) (x : Hx) (ad : Nat → Nat) (ds : Nat → Option Lay) (cm : Mem) (a q N n : Nat) (e : Nat → Nat) (hL : LsD ds a q N n e) (hn : cm a 2 = nI n) (i : Nat) (hi : i < n) : Cn l yJ2_get (ws_ yJ2_get cJ2_get 2 (some (.object "java/lang/Object"))) 3 0 0 [.ref (ad a), .int (nI i)] (PicH x) (KC x) (hx_A x) (ad, ds, cm) (fun rv_ w_ => rv_ = some (.ref (ad (e i))) ∧ w_ = (ad, ds, cm)) := by
  have h1 := hL.2.2.1
  have h2 := hL.2.2.2
  refine cn_a (own := RJ2) (Or.inl ⟨_, rfl⟩) rfl (Nat.le_of_ble_eq_true rfl) rfl (fun g hgl hA F hret => ?_)
  refine Wd.eql (lv' := [(0, .ref (ad a)), (1, .int (nI i))]) rfl ?_
  refine ro_iload_n F dJ2_get_0 1 rfl ?_
  refine ro_aload_n F dJ2_get_1 0 rfl ?_
  refine hh_get F F.k.1 in_J2 (F.k.c rfl) a hL.1 2 (by decide) qJ2_48 (fun _ h => h) (Nat.le_of_ble_eq_true rfl) (v := .int (nI n)) (congrArg Value.int hn) dJ2_get_2 ?_
  refine Wd.eqs (st' := ([.int (nI i), .int (nI n)] : List Value).reverse ++ []) rfl ?_
  refine ca_S (N := 2) (by rw [hA]; exact KC_st x) F (fun q hq => by rw [hA]; exact hq) (metJ13_checkIndex (gx_l g) (PicH x) (KC x) (hx_A x) (KC_st x) _ i n hi (by omega)) cwJ2_118 (by decide +kernel) rfl (Nat.le_of_ble_eq_true rfl) (Nat.le_of_ble_eq_true rfl) (Nat.le_refl _) (Nat.le_refl _) (Nat.le_of_ble_eq_true rfl) dJ2_get_5 (fun v w' hp => ?_)
  rw [hp.1, hp.2]
  refine ro_pop F dJ2_get_8 rfl ?_
  refine ro_aload_n F dJ2_get_9 0 rfl ?_
  refine ro_iload_n F dJ2_get_10 1 rfl ?_
  refine Wd.eqs (st' := ([.int (nI i)] : List Value).reverse ++ .ref (ad a) :: []) rfl ?_
  refine ca_V (N := 1) (by rw [hA]; exact KC_st x) F (fun q hq => by rw [hA]; exact hq) (metJ2_elementData (gx_l g) x ad ds cm a q N n e hL i hi) cwJ2_123 (hh_recv F.k.1 hL.1 (F.k.c rfl)) (by decide +kernel) rfl (Nat.le_of_ble_eq_true rfl) (Nat.le_of_ble_eq_true rfl) (Nat.le_refl _) (Nat.le_refl _) (Nat.le_of_ble_eq_true rfl) dJ2_get_11 (fun v w' hp => ?_)
  rw [hp.1, hp.2]
  exact hret _ _ _ _ _ _ (Nat.le_refl _) (Nat.le_refl _) dJ2_get_14 ⟨rfl, rfl⟩
end AL
