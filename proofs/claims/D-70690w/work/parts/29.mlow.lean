/-! the reference's lowest terms: the loop is Euclid's -/
theorem lN_ne0 {y : Nat} (h0 : 0 < y) (h : y < 2 ^ 63) : ¬ lN y = 0 := fun e => by
  have h1 : lN y = lN 0 := e
  have := (pk_lEQ h (by decide)).mp h1
  omega
set_option maxHeartbeats 4000000 in
theorem metX6_lowest (l : Launch) (X : Mx) (m : Mem) (a b : Nat) (what : Int32) (ha : a < 2 ^ 62) (hb0 : 0 < b) (hb : b < 2 ^ 62) : Cn l yX6_lowest (ws_ yX6_lowest cX6_lowest 11 (some .long)) 1 0 0 [.long (lN a), .long (lN b), .int what] (PicM X) (KM X) (mx_A X) m (fun rv_ w_ => rv_ = some (.long (if what = 0 then lN (a / Nat.gcd a b) else lN (b / Nat.gcd a b))) ∧ w_ = m) := by
  refine cn_l (own := RX6) rfl (Nat.le_of_ble_eq_true rfl) rfl (fun g hgl hA F hret => ?_)
  refine Wd.eql (lv' := [(0, .long (lN a)), (2, .long (lN b)), (4, .int what)]) rfl ?_
  have hg0 : 0 < Nat.gcd a b := Nat.gcd_pos_of_pos_right a hb0
  have hgb : Nat.gcd a b ≤ b := Nat.gcd_le_right a hb0
  have L : ∀ (n y x : Nat), y ≤ n → y < 2 ^ 62 → x < 2 ^ 62 → Nat.gcd x y = Nat.gcd a b → Wd (PicM X) g 11 m 0 0 6 [(0, .long (lN a)), (2, .long (lN b)), (4, .int what), (5, .long (lN x)), (7, .long (lN y))] [] := by
    intro n
    induction n with
    | zero =>
      intro y x hy hy2 hx hgc
      have hy0 : y = 0 := by omega
      subst hy0
      rw [Nat.gcd_zero_right] at hgc
      subst hgc
      refine ro_lload F dX6_lowest_6 4 rfl ?_
      refine ro_lconst (v := 0) F dX6_lowest_8 (by decide) ?_
      refine ro_lcmp F dX6_lowest_9 ?_
      refine ro_lif_eq (tgt := 31) F dX6_lowest_10 (by decide) (fun _ => ?_) (fun c => absurd rfl c)
      refine ro_iload F dX6_lowest_31 2 rfl ?_
      refine ro_if_ne (tgt := 43) F dX6_lowest_33 (by decide) (fun c => ?_) (fun c => ?_)
      · refine ro_lload_n F dX6_lowest_43 1 rfl ?_
        refine ro_lload F dX6_lowest_44 3 rfl ?_
        refine ro_ldiv F dX6_lowest_46 (lN_ne0 hg0 (by omega)) ?_
        refine ro_eql (pk_lDiv (by omega) hg0 (by omega)) ?_
        exact hret _ _ _ _ _ _ (Nat.le_refl _) (Nat.le_refl _) dX6_lowest_47 ⟨by rw [if_neg c], rfl⟩
      · refine ro_lload_n F dX6_lowest_36 0 rfl ?_
        refine ro_lload F dX6_lowest_37 3 rfl ?_
        refine ro_ldiv F dX6_lowest_39 (lN_ne0 hg0 (by omega)) ?_
        refine ro_eql (pk_lDiv (by omega) hg0 (by omega)) ?_
        refine ro_goto (tgt := 47) F dX6_lowest_40 (by decide) ?_
        exact hret _ _ _ _ _ _ (Nat.le_refl _) (Nat.le_refl _) dX6_lowest_47 ⟨by rw [if_pos c], rfl⟩
    | succ n ih =>
      intro y x hy hy2 hx hgc
      rcases Nat.eq_zero_or_pos y with hy0 | hy0
      · exact ih y x (by omega) hy2 hx hgc
      refine ro_lload F dX6_lowest_6 4 rfl ?_
      refine ro_lconst (v := 0) F dX6_lowest_8 (by decide) ?_
      refine ro_lcmp F dX6_lowest_9 ?_
      refine ro_lif_eq (tgt := 31) F dX6_lowest_10 (by decide) (fun c => absurd c (lN_ne0 hy0 (by omega))) (fun c => ?_)
      refine ro_lload F dX6_lowest_13 3 rfl ?_
      refine ro_lload F dX6_lowest_15 4 rfl ?_
      refine ro_lrem F dX6_lowest_17 c ?_
      refine ro_eql (pk_lRem (by omega) hy0 (by omega)) ?_
      refine ro_lstore (lv' := [(0, .long (lN a)), (2, .long (lN b)), (4, .int what), (5, .long (lN x)), (7, .long (lN y)), (9, .long (lN (x % y)))]) F dX6_lowest_18 (Nat.le_of_ble_eq_true rfl) [1, 2, 3, 4, 5, 0] rfl ?_
      refine ro_lload F dX6_lowest_20 4 rfl ?_
      refine ro_lstore (lv' := [(0, .long (lN a)), (2, .long (lN b)), (4, .int what), (5, .long (lN y)), (7, .long (lN y)), (9, .long (lN (x % y)))]) F dX6_lowest_22 (Nat.le_of_ble_eq_true rfl) [1, 2, 3, 0, 4, 5] rfl ?_
      refine ro_lload F dX6_lowest_24 5 rfl ?_
      refine ro_lstore (lv' := [(0, .long (lN a)), (2, .long (lN b)), (4, .int what), (5, .long (lN y)), (7, .long (lN (x % y)))]) F dX6_lowest_26 (Nat.le_of_ble_eq_true rfl) [1, 2, 3, 4, 0] rfl ?_
      refine ro_goto (tgt := 6) F dX6_lowest_28 (by decide) ?_
      have hm : x % y < y := Nat.mod_lt _ hy0
      exact ih (x % y) y (by omega) (by omega) (by omega) (by rw [← hgc, Nat.gcd_comm x y, Nat.gcd_rec y x, Nat.gcd_comm])
  refine ro_lload_n F dX6_lowest_0 0 rfl ?_
  refine ro_lstore (lv' := [(0, .long (lN a)), (2, .long (lN b)), (4, .int what), (5, .long (lN a))]) F dX6_lowest_1 (Nat.le_of_ble_eq_true rfl) [1, 2, 3, 0] rfl ?_
  refine ro_lload_n F dX6_lowest_3 1 rfl ?_
  refine ro_lstore (lv' := [(0, .long (lN a)), (2, .long (lN b)), (4, .int what), (5, .long (lN a)), (7, .long (lN b))]) F dX6_lowest_4 (Nat.le_of_ble_eq_true rfl) [1, 2, 3, 4, 0] rfl ?_
  exact L b b a (Nat.le_refl _) hb ha rfl
theorem lN_back {T : Int64} (h : ∃ s, s < 2 ^ 62 ∧ T = lN s) : T = lN T.toInt.toNat ∧ T.toInt.toNat < 2 ^ 62 := by
  obtain ⟨s, hs, e⟩ := h
  subst e
  rw [pk_lT (by omega)]
  exact ⟨by rw [Int.toNat_natCast], by rw [Int.toNat_natCast]; exact hs⟩
theorem shl4_all : ∀ n, n < 7 → (1 : Int64) <<< ((nI (4 * n)).toInt64 &&& 63) = lN (2 ^ (4 * n)) := by decide +kernel
theorem shl4 {n : Nat} (h : n ≤ 6) : (1 : Int64) <<< ((nI (4 * n)).toInt64 &&& 63) = lN (2 ^ (4 * n)) := shl4_all n (by omega)
theorem pow4_all : ∀ n, n < 7 → 0 < 2 ^ (4 * n) ∧ 2 ^ (4 * n) ≤ 16777216 ∧ 1 ≤ 2 ^ n ∧ 2 ^ n ≤ 64 := by decide +kernel
theorem pow4 {n : Nat} (h : n ≤ 6) : 0 < 2 ^ (4 * n) ∧ 2 ^ (4 * n) ≤ 16777216 ∧ 1 ≤ 2 ^ n ∧ 2 ^ n ≤ 64 := pow4_all n (by omega)
