/-! the class's divisor and part: Euclid by calls -/
section DV
variable (l : Launch) (x : Hx) (M : Bool × Bool) (ad : Nat → Nat) (ds : Nat → Option Lay) (m : Mem)
theorem dv_step (a b d : Nat) (ha : a < 2 ^ 62) (hb : b < 2 ^ 62) (hrec : b ≠ 0 → Cn l yX0_divisor (ws_ yX0_divisor cX0_divisor 4 (some .long)) d 0 0 [.long (lN b), .long (lN (a % b))] (PicQ x M) (KC x) (hx_A x) (ad, ds, m) (fun rv_ w_ => rv_ = some (.long (lN (Nat.gcd b (a % b)))) ∧ w_ = (ad, ds, m))) :
    Cn l yX0_divisor (ws_ yX0_divisor cX0_divisor 4 (some .long)) (d + 1) 0 0 [.long (lN a), .long (lN b)] (PicQ x M) (KC x) (hx_A x) (ad, ds, m) (fun rv_ w_ => rv_ = some (.long (lN (Nat.gcd a b))) ∧ w_ = (ad, ds, m)) := by
  refine cn_l (own := RX0) rfl (Nat.le_of_ble_eq_true rfl) rfl (fun g hgl hA F hret => ?_)
  refine Wd.eql (lv' := [(0, .long (lN a)), (2, .long (lN b))]) rfl ?_
  subst hgl
  refine ro_lload_n F dX0_divisor_0 1 rfl ?_
  refine ro_lconst (v := 0) F dX0_divisor_1 (by decide) ?_
  refine ro_lcmp F dX0_divisor_2 ?_
  refine ro_lif_ne (tgt := 10) F dX0_divisor_3 (by decide) (fun c => ?_) (fun c => ?_)
  · have hb0 : b ≠ 0 := fun z => c (by rw [z]; rfl)
    refine ro_lload_n F dX0_divisor_10 1 rfl ?_
    refine ro_lload_n F dX0_divisor_11 0 rfl ?_
    refine ro_lload_n F dX0_divisor_12 1 rfl ?_
    refine ro_lrem F dX0_divisor_13 c ?_
    refine ro_eql (pk_lRem (by omega) (by omega) (by omega)) ?_
    refine hq_cS (rest := []) F hA (hrec hb0) cwX0_331 hdX0_divisor.2 rfl (Nat.le_refl _) (Nat.le_of_ble_eq_true rfl) (Nat.le_refl _) (Nat.le_refl _) rfl (Nat.le_of_ble_eq_true rfl) dX0_divisor_14 ?_
    exact hret _ _ _ _ _ _ (Nat.le_refl _) (Nat.le_refl _) dX0_divisor_17 ⟨by rw [Nat.gcd_comm a b, Nat.gcd_rec b a, Nat.gcd_comm], rfl⟩
  · have hb0 : b = 0 := by
      by_cases z : b = 0
      · exact z
      · exact absurd c (lN_ne0 (by omega) (by omega))
    subst hb0
    refine ro_lload_n F dX0_divisor_6 0 rfl ?_
    refine ro_goto (tgt := 17) F dX0_divisor_7 (by decide) ?_
    exact hret _ _ _ _ _ _ (Nat.le_refl _) (Nat.le_refl _) dX0_divisor_17 ⟨by rw [Nat.gcd_zero_right], rfl⟩
theorem dv_all : ∀ (n a b : Nat), a < 2 ^ 62 → b < 2 ^ 62 → b < 2 ^ n → Cn l yX0_divisor (ws_ yX0_divisor cX0_divisor 4 (some .long)) (2 * n + 1) 0 0 [.long (lN a), .long (lN b)] (PicQ x M) (KC x) (hx_A x) (ad, ds, m) (fun rv_ w_ => rv_ = some (.long (lN (Nat.gcd a b))) ∧ w_ = (ad, ds, m)) := by
  intro n
  induction n with
  | zero => intro a b ha hb h; exact dv_step l x M ad ds m a b 0 ha hb (fun z => absurd h (by omega))
  | succ n ih =>
    intro a b ha hb h
    refine dv_step l x M ad ds m a b (2 * n + 2) ha hb (fun h0 => ?_)
    have hr : a % b < b := Nat.mod_lt _ (by omega)
    refine dv_step l x M ad ds m b (a % b) (2 * n + 1) hb (by omega) (fun h1 => ?_)
    have hr2 : b % (a % b) < a % b := Nat.mod_lt _ (by omega)
    have hr3 : b % (a % b) + (a % b) ≤ b := by
      have e := Nat.div_add_mod b (a % b)
      have hq : 1 ≤ b / (a % b) := Nat.div_pos (by omega) (by omega)
      have := Nat.mul_le_mul_left (a % b) hq
      omega
    exact ih _ _ (by omega) (by omega) (by rw [Nat.pow_succ] at h; omega)
theorem metX0_part_q (a b : Nat) (what : Int32) (ha : a < 2 ^ 62) (hb0 : 0 < b) (hb : b < 2 ^ 25) : Cn l yX0_part (ws_ yX0_part cX0_part 5 (some .long)) 52 0 0 [.long (lN a), .long (lN b), .int what] (PicQ x M) (KC x) (hx_A x) (ad, ds, m) (fun rv_ w_ => rv_ = some (.long (if what = 0 then lN (a / Nat.gcd a b) else lN (b / Nat.gcd a b))) ∧ w_ = (ad, ds, m)) := by
  refine cn_l (own := RX0) rfl (Nat.le_of_ble_eq_true rfl) rfl (fun g hgl hA F hret => ?_)
  refine Wd.eql (lv' := [(0, .long (lN a)), (2, .long (lN b)), (4, .int what)]) rfl ?_
  subst hgl
  have hg0 : 0 < Nat.gcd a b := Nat.gcd_pos_of_pos_right a hb0
  have hgb : Nat.gcd a b ≤ b := Nat.gcd_le_right a hb0
  refine ro_iload F dX0_part_0 2 rfl ?_
  refine ro_if_ne (tgt := 9) F dX0_part_2 (by decide) (fun c => ?_) (fun c => ?_)
  · refine ro_lload_n F dX0_part_9 1 rfl ?_
    refine ro_lload_n F dX0_part_10 0 rfl ?_
    refine ro_lload_n F dX0_part_11 1 rfl ?_
    refine hq_cS (rest := [.long (lN b)]) F hA (dv_all _ x M ad ds m 25 a b ha (by omega) hb) cwX0_331 hdX0_divisor.2 rfl (Nat.le_of_ble_eq_true rfl) (Nat.le_of_ble_eq_true rfl) (Nat.le_refl _) (Nat.le_refl _) rfl (Nat.le_of_ble_eq_true rfl) dX0_part_12 ?_
    refine ro_ldiv F dX0_part_15 (lN_ne0 hg0 (by omega)) ?_
    refine ro_eql (pk_lDiv (by omega) hg0 (by omega)) ?_
    exact hret _ _ _ _ _ _ (Nat.le_refl _) (Nat.le_refl _) dX0_part_16 ⟨by rw [if_neg c], rfl⟩
  · refine ro_lload_n F dX0_part_5 0 rfl ?_
    refine ro_goto (tgt := 10) F dX0_part_6 (by decide) ?_
    refine ro_lload_n F dX0_part_10 0 rfl ?_
    refine ro_lload_n F dX0_part_11 1 rfl ?_
    refine hq_cS (rest := [.long (lN a)]) F hA (dv_all _ x M ad ds m 25 a b ha (by omega) hb) cwX0_331 hdX0_divisor.2 rfl (Nat.le_of_ble_eq_true rfl) (Nat.le_of_ble_eq_true rfl) (Nat.le_refl _) (Nat.le_refl _) rfl (Nat.le_of_ble_eq_true rfl) dX0_part_12 ?_
    refine ro_ldiv F dX0_part_15 (lN_ne0 hg0 (by omega)) ?_
    refine ro_eql (pk_lDiv (by omega) hg0 (by omega)) ?_
    exact hret _ _ _ _ _ _ (Nat.le_refl _) (Nat.le_refl _) dX0_part_16 ⟨by rw [if_pos c], rfl⟩
end DV
