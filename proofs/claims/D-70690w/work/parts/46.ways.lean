/-! Math.min and max, the ways (draw, keep) and the ears (care, yawn) -/
def mn_ (a b : Int32) : Int32 := if b < a then b else a
def mx_m (a b : Int32) : Int32 := if a < b then b else a
/-- what a way makes of what is owed; q: its place (124 draws, 188 keeps) -/
def wy_m (q : Nat) (o : Int32) : Int32 := if q = 188 then o + o / nI 10 else o
def er_h (q : Nat) (o l : Int32) : Int32 := if q = 62 then mn_ o (l / nI 2) else mn_ o l
def er_t (q : Nat) (h : Int32) : Int32 := if q = 62 then nI 2 * h else h
section WG
variable {α : Type} (Pic : α → Heap → Prop) (K : State → Prop) (A : Nat → Prop) (w : α) (l : Launch)
theorem metJ7_min (a b : Int32) : Cn l yJ7_min (ws_ yJ7_min cJ7_min 2 (some .int)) 1 0 0 [.int a, .int b] Pic K A w (fun rv_ w_ => rv_ = some (.int (mn_ a b)) ∧ w_ = w) := by
  refine cnF_i (own := RJ7) (by decide +kernel) (Nat.le_of_ble_eq_true rfl) rfl (fun g hgl hA F hret => ?_)
  refine Wd.eql (lv' := [(0, .int a), (1, .int b)]) rfl ?_
  refine ro_iload_n F dJ7_min_0 0 rfl ?_
  refine ro_iload_n F dJ7_min_1 1 rfl ?_
  refine ro_icmp_gt (tgt := 9) F dJ7_min_2 (by decide) (fun c => ?_) (fun c => ?_)
  · refine ro_iload_n F dJ7_min_9 1 rfl ?_
    exact hret _ _ _ _ _ _ (Nat.le_refl _) (Nat.le_refl _) dJ7_min_10 rfl ⟨by unfold mn_; rw [if_pos c], rfl⟩
  · refine ro_iload_n F dJ7_min_5 0 rfl ?_
    refine ro_goto (tgt := 10) F dJ7_min_6 (by decide) ?_
    exact hret _ _ _ _ _ _ (Nat.le_refl _) (Nat.le_refl _) dJ7_min_10 rfl ⟨by unfold mn_; rw [if_neg c], rfl⟩
theorem metJ7_max (a b : Int32) : Cn l yJ7_max (ws_ yJ7_max cJ7_max 2 (some .int)) 1 0 0 [.int a, .int b] Pic K A w (fun rv_ w_ => rv_ = some (.int (mx_m a b)) ∧ w_ = w) := by
  refine cnF_i (own := RJ7) (by decide +kernel) (Nat.le_of_ble_eq_true rfl) rfl (fun g hgl hA F hret => ?_)
  refine Wd.eql (lv' := [(0, .int a), (1, .int b)]) rfl ?_
  refine ro_iload_n F dJ7_max_0 0 rfl ?_
  refine ro_iload_n F dJ7_max_1 1 rfl ?_
  refine ro_icmp_lt (tgt := 9) F dJ7_max_2 (by decide) (fun c => ?_) (fun c => ?_)
  · refine ro_iload_n F dJ7_max_9 1 rfl ?_
    exact hret _ _ _ _ _ _ (Nat.le_refl _) (Nat.le_refl _) dJ7_max_10 rfl ⟨by unfold mx_m; rw [if_pos c], rfl⟩
  · refine ro_iload_n F dJ7_max_5 0 rfl ?_
    refine ro_goto (tgt := 10) F dJ7_max_6 (by decide) ?_
    exact hret _ _ _ _ _ _ (Nat.le_refl _) (Nat.le_refl _) dJ7_max_10 rfl ⟨by unfold mx_m; rw [if_neg c], rfl⟩
theorem metX11_number (b : Nat) : CnB l yX11_number (ws_ yX11_number cX11_number 1 (some .int)) 1 0 0 [.ref b] Pic K A w (fun rv_ w_ => rv_ = some (.int (nI 0)) ∧ w_ = w) := by
  refine cnb_i (own := RX11) rfl (Nat.le_of_ble_eq_true rfl) rfl (fun g hgl hA F hret => ?_)
  refine Wd.eql (lv' := [(0, .ref b)]) rfl ?_
  refine ro_iconst (v := nI 0) F dX11_number_0 (by decide) ?_
  exact hret _ _ _ _ _ _ (Nat.le_refl _) (Nat.le_refl _) dX11_number_1 rfl ⟨rfl, rfl⟩
theorem metX11_mounts (b : Nat) (o : Int32) : CnB l yX11_mounts (ws_ yX11_mounts cX11_mounts 2 (some .int)) 1 0 0 [.ref b, .int o] Pic K A w (fun rv_ w_ => rv_ = some (.int o) ∧ w_ = w) := by
  refine cnb_i (own := RX11) rfl (Nat.le_of_ble_eq_true rfl) rfl (fun g hgl hA F hret => ?_)
  refine Wd.eql (lv' := [(0, .ref b), (1, .int o)]) rfl ?_
  refine ro_iload_n F dX11_mounts_0 1 rfl ?_
  exact hret _ _ _ _ _ _ (Nat.le_refl _) (Nat.le_refl _) dX11_mounts_1 rfl ⟨rfl, rfl⟩
theorem metX11_comes (b : Nat) (z : Int32) : CnB l yX11_comes (ws_ yX11_comes cX11_comes 2 (some .boolean)) 1 0 0 [.ref b, .int z] Pic K A w (fun rv_ w_ => rv_ = some (.int (nI 1)) ∧ w_ = w) := by
  refine cnb_i (own := RX11) rfl (Nat.le_of_ble_eq_true rfl) rfl (fun g hgl hA F hret => ?_)
  refine Wd.eql (lv' := [(0, .ref b), (1, .int z)]) rfl ?_
  refine ro_iconst (v := nI 1) F dX11_comes_0 (by decide) ?_
  exact hret _ _ _ _ _ _ (Nat.le_refl _) (Nat.le_refl _) dX11_comes_1 rfl ⟨rfl, rfl⟩
theorem metX10_comes (b : Nat) (p : Prop) [Decidable p] : CnB l yX10_comes (ws_ yX10_comes cX10_comes 2 (some .boolean)) 1 0 0 [.ref b, .int (b2 p)] Pic K A w (fun rv_ w_ => rv_ = some (.int (b2 p)) ∧ w_ = w) := by
  refine cnb_i (own := RX10) rfl (Nat.le_of_ble_eq_true rfl) rfl (fun g hgl hA F hret => ?_)
  refine Wd.eql (lv' := [(0, .ref b), (1, .int (b2 p))]) rfl ?_
  refine ro_iload_n F dX10_comes_0 1 rfl ?_
  exact hret _ _ _ _ _ _ (Nat.le_refl _) (Nat.le_refl _) dX10_comes_1 b2_nar ⟨rfl, rfl⟩
theorem metX9_takes (b : Nat) (h : Int32) : CnB l yX9_takes (ws_ yX9_takes cX9_takes 2 (some .int)) 1 0 0 [.ref b, .int h] Pic K A w (fun rv_ w_ => rv_ = some (.int h) ∧ w_ = w) := by
  refine cnb_i (own := RX9) rfl (Nat.le_of_ble_eq_true rfl) rfl (fun g hgl hA F hret => ?_)
  refine Wd.eql (lv' := [(0, .ref b), (1, .int h)]) rfl ?_
  refine ro_iload_n F dX9_takes_0 1 rfl ?_
  exact hret _ _ _ _ _ _ (Nat.le_refl _) (Nat.le_refl _) dX9_takes_1 rfl ⟨rfl, rfl⟩
theorem metX9_hears (hKs : Kst A K) (b : Nat) (o h : Int32) : CnB l yX9_hears (ws_ yX9_hears cX9_hears 3 (some .int)) 2 0 0 [.ref b, .int o, .int h] Pic K A w (fun rv_ w_ => rv_ = some (.int (mn_ o h)) ∧ w_ = w) := by
  refine cnb_i (own := RX9) rfl (Nat.le_of_ble_eq_true rfl) rfl (fun g hgl hA F hret => ?_)
  refine Wd.eql (lv' := [(0, .ref b), (1, .int o), (2, .int h)]) rfl ?_
  refine ro_iload_n F dX9_hears_0 1 rfl ?_
  refine ro_iload_n F dX9_hears_1 2 rfl ?_
  refine Wd.eqs (st' := ([.int o, .int h] : List Value).reverse ++ []) rfl ?_
  refine ca_S (N := 2) (by rw [hA]; exact hKs) F (fun q hq => by rw [hA]; exact hq) (metJ7_min Pic K A w (gx_l g) o h) cwX9_7 (by decide +kernel) rfl (Nat.le_of_ble_eq_true rfl) (Nat.le_of_ble_eq_true rfl) (Nat.le_refl _) (Nat.le_refl _) (Nat.le_of_ble_eq_true rfl) dX9_hears_2 (fun v w' hp => ?_)
  rw [hp.1, hp.2]
  exact hret _ _ _ _ _ _ (Nat.le_refl _) (Nat.le_refl _) dX9_hears_5 rfl ⟨rfl, rfl⟩
end WG
section WH
variable (l : Launch) (x : Hx) (ad : Nat → Nat) (ds : Nat → Option Lay) (cm : Mem)
theorem metX10_number (hds : FixD ds) : CnB l yX10_number (ws_ yX10_number cX10_number 1 (some .int)) 2 0 0 [.ref (ad 188)] (PicH x) (KC x) (hx_A x) (ad, ds, cm) (fun rv_ w_ => rv_ = some (.int (nI 1)) ∧ w_ = (ad, ds, cm)) := by
  refine cnb_i (own := RX10) rfl (Nat.le_of_ble_eq_true rfl) rfl (fun g hgl hA F hret => ?_)
  refine Wd.eql (lv' := [(0, .ref (ad 188))]) rfl ?_
  refine ro_aload_n F dX10_number_0 0 rfl ?_
  refine cab_P (N := 0) (As := []) (rest := []) (by rw [hA]; exact KC_st x) F (fun q hq => by rw [hA]; exact hq) (F.k.1.1 9 _ (F.k.c rfl)).2 (metX11_number (PicH x) (KC x) (hx_A x) _ (gx_l g) (ad 188)) q694 q690 q695 q688 q696 (hh_recv F.k.1 (hds 188 _ rfl) (F.k.c rfl)) (by decide +kernel) rfl (Nat.le_of_ble_eq_true rfl) (Nat.le_of_ble_eq_true rfl) (Nat.le_refl _) (Nat.le_refl _) rfl (Nat.le_of_ble_eq_true rfl) dX10_number_1 (fun v w' hp => ?_)
  rw [hp.1, hp.2]
  refine ro_iconst (v := nI 1) F dX10_number_4 (by decide) ?_
  refine ro_iaddN F dX10_number_5 ?_
  exact hret _ _ _ _ _ _ (Nat.le_refl _) (Nat.le_refl _) dX10_number_6 rfl ⟨rfl, rfl⟩
theorem metX10_mounts (hds : FixD ds) (o : Int32) : CnB l yX10_mounts (ws_ yX10_mounts cX10_mounts 2 (some .int)) 2 0 0 [.ref (ad 188), .int o] (PicH x) (KC x) (hx_A x) (ad, ds, cm) (fun rv_ w_ => rv_ = some (.int (o + o / nI 10)) ∧ w_ = (ad, ds, cm)) := by
  refine cnb_i (own := RX10) rfl (Nat.le_of_ble_eq_true rfl) rfl (fun g hgl hA F hret => ?_)
  refine Wd.eql (lv' := [(0, .ref (ad 188)), (1, .int o)]) rfl ?_
  refine ro_aload_n F dX10_mounts_0 0 rfl ?_
  refine ro_iload_n F dX10_mounts_1 1 rfl ?_
  refine cab_P (N := 1) (As := [.int o]) (rest := []) (by rw [hA]; exact KC_st x) F (fun q hq => by rw [hA]; exact hq) (F.k.1.1 9 _ (F.k.c rfl)).2 (metX11_mounts (PicH x) (KC x) (hx_A x) _ (gx_l g) (ad 188) o) q806 q802 q695 q800 q807 (hh_recv F.k.1 (hds 188 _ rfl) (F.k.c rfl)) (by decide +kernel) rfl (Nat.le_of_ble_eq_true rfl) (Nat.le_of_ble_eq_true rfl) (Nat.le_refl _) (Nat.le_refl _) rfl (Nat.le_of_ble_eq_true rfl) dX10_mounts_2 (fun v w' hp => ?_)
  rw [hp.1, hp.2]
  refine ro_iload_n F dX10_mounts_5 1 rfl ?_
  refine ro_bipush (v := nI 10) F dX10_mounts_6 (by decide) ?_
  refine ro_idiv F dX10_mounts_8 (by decide) ?_
  refine ro_iadd F dX10_mounts_9 ?_
  exact hret _ _ _ _ _ _ (Nat.le_refl _) (Nat.le_refl _) dX10_mounts_10 rfl ⟨rfl, rfl⟩
theorem metX12_hears (hds : FixD ds) (o h : Int32) : CnB l yX12_hears (ws_ yX12_hears cX12_hears 3 (some .int)) 3 0 0 [.ref (ad 62), .int o, .int h] (PicH x) (KC x) (hx_A x) (ad, ds, cm) (fun rv_ w_ => rv_ = some (.int (mn_ o (h / nI 2))) ∧ w_ = (ad, ds, cm)) := by
  refine cnb_i (own := RX12) rfl (Nat.le_of_ble_eq_true rfl) rfl (fun g hgl hA F hret => ?_)
  refine Wd.eql (lv' := [(0, .ref (ad 62)), (1, .int o), (2, .int h)]) rfl ?_
  refine ro_aload_n F dX12_hears_0 0 rfl ?_
  refine ro_iload_n F dX12_hears_1 1 rfl ?_
  refine ro_iload_n F dX12_hears_2 2 rfl ?_
  refine ro_iconst (v := nI 2) F dX12_hears_3 (by decide) ?_
  refine ro_idiv F dX12_hears_4 (by decide) ?_
  refine cab_P (N := 2) (As := [.int o, .int (h / nI 2)]) (rest := []) (by rw [hA]; exact KC_st x) F (fun q hq => by rw [hA]; exact hq) (F.k.1.1 11 _ (F.k.c rfl)).2 (metX9_hears (PicH x) (KC x) (hx_A x) _ (gx_l g) (KC_st x) (ad 62) o (h / nI 2)) q837 q833 q838 q831 q839 (hh_recv F.k.1 (hds 62 _ rfl) (F.k.c rfl)) (by decide +kernel) rfl (Nat.le_of_ble_eq_true rfl) (Nat.le_of_ble_eq_true rfl) (Nat.le_refl _) (Nat.le_refl _) rfl (Nat.le_of_ble_eq_true rfl) dX12_hears_5 (fun v w' hp => ?_)
  rw [hp.1, hp.2]
  exact hret _ _ _ _ _ _ (Nat.le_refl _) (Nat.le_refl _) dX12_hears_8 rfl ⟨rfl, rfl⟩
theorem metX12_takes (hds : FixD ds) (h : Int32) : CnB l yX12_takes (ws_ yX12_takes cX12_takes 2 (some .int)) 2 0 0 [.ref (ad 62), .int h] (PicH x) (KC x) (hx_A x) (ad, ds, cm) (fun rv_ w_ => rv_ = some (.int (nI 2 * h)) ∧ w_ = (ad, ds, cm)) := by
  refine cnb_i (own := RX12) rfl (Nat.le_of_ble_eq_true rfl) rfl (fun g hgl hA F hret => ?_)
  refine Wd.eql (lv' := [(0, .ref (ad 62)), (1, .int h)]) rfl ?_
  refine ro_iconst (v := nI 2) F dX12_takes_0 (by decide) ?_
  refine ro_aload_n F dX12_takes_1 0 rfl ?_
  refine ro_iload_n F dX12_takes_2 1 rfl ?_
  refine cab_P (N := 1) (As := [.int h]) (rest := [.int (nI 2)]) (by rw [hA]; exact KC_st x) F (fun q hq => by rw [hA]; exact hq) (F.k.1.1 11 _ (F.k.c rfl)).2 (metX9_takes (PicH x) (KC x) (hx_A x) _ (gx_l g) (ad 62) h) q848 q844 q838 q842 q849 (hh_recv F.k.1 (hds 62 _ rfl) (F.k.c rfl)) (by decide +kernel) rfl (Nat.le_of_ble_eq_true rfl) (Nat.le_of_ble_eq_true rfl) (Nat.le_refl _) (Nat.le_refl _) rfl (Nat.le_of_ble_eq_true rfl) dX12_takes_3 (fun v w' hp => ?_)
  rw [hp.1, hp.2]
  refine ro_imul F dX12_takes_6 ?_
  exact hret _ _ _ _ _ _ (Nat.le_refl _) (Nat.le_refl _) dX12_takes_7 rfl ⟨rfl, rfl⟩
end WH
