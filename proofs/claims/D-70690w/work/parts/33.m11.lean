noncomputable def wX6_read (s : Nat) (sz : Nat → Nat) (m : Mem) : Nat → Nat → Nat → Mem → Int32 × Mem
  | 0, _, _, b => (0, b)
  | fuel + 1, n, c, b => (if (sz s) ≤ ((2 * n) + 1) then ((nI n), b) else (if (rX6_call (m 37 ((60 * s) + (2 * n))) (m 37 (((60 * s) + (2 * n)) + 1)) c) ≤ 0 then ((nI n), (fX6_call (m 37 ((60 * s) + (2 * n))) (m 37 (((60 * s) + (2 * n)) + 1)) c b)) else wX6_read s sz m fuel (n + 1) (c + 1) (fX6_call (m 37 ((60 * s) + (2 * n))) (m 37 (((60 * s) + (2 * n)) + 1)) c b)))
theorem fr_wX6_read (s : Nat) (sz : Nat → Nat) (m : Mem) : ∀ (fuel n c : Nat) (b : Mem) (f : Nat) (h11 : f ≠ 11) (h12 : f ≠ 12) (h13 : f ≠ 13) , (wX6_read s sz m fuel n c b).2 f = b f
  | 0, n, c, b, f, _, _, _ => rfl
  | fuel + 1, n, c, b, f, h11, h12, h13 => ite_fr2 (rfl) (ite_fr2 ((fr_fX6_call (m 37 ((60 * s) + (2 * n))) (m 37 (((60 * s) + (2 * n)) + 1)) c b f h11 h12 h13).trans (rfl)) ((fr_wX6_read s sz m fuel (n + 1) (c + 1) (fX6_call (m 37 ((60 * s) + (2 * n))) (m 37 (((60 * s) + (2 * n)) + 1)) c b) f h11 h12 h13).trans ((fr_fX6_call (m 37 ((60 * s) + (2 * n))) (m 37 (((60 * s) + (2 * n)) + 1)) c b f h11 h12 h13).trans (rfl))))
theorem call_ok {day saver : Int32} {c : Nat} {b : Mem} (hc : c ≤ 8) (h : ¬ rX6_call day saver c ≤ 0) : c < 8 ∧ fX6_call day saver c b 11 0 = nI (c + 1) := by
  unfold rX6_call at h
  unfold fX6_call
  by_cases c1 : ¬ (day < nI 0) ∧ ¬ (nI 19 < day)
  · rw [if_pos c1] at h ⊢
    by_cases c2 : ¬ (saver < nI 0) ∧ ¬ (nI 7 < saver)
    · rw [if_pos c2] at h ⊢
      by_cases c3 : c = 8
      · rw [if_pos c3] at h; exact absurd (by decide) h
      · rw [if_neg c3]; exact ⟨by omega, m2_self _ _ _ _⟩
    · rw [if_neg c2] at h; exact absurd (by decide) h
  · rw [if_neg c1] at h; exact absurd (by decide) h
noncomputable def rX6_read (s nc : Nat) (sz : Nat → Nat) (m : Mem) : Int32 := if m 34 s = 0 then (-11) else (wX6_read s sz m 31 0 nc m).1
noncomputable def fX6_read (s nc : Nat) (sz : Nat → Nat) (m : Mem) : Mem := if m 34 s = 0 then fX6_meets (nI 1) m else (wX6_read s sz m 31 0 nc m).2
theorem fr_fX6_read (s nc : Nat) (sz : Nat → Nat) (m : Mem) (f : Nat) (h11 : f ≠ 11) (h12 : f ≠ 12) (h13 : f ≠ 13) (h39 : f ≠ 39) : fX6_read s nc sz m f = m f := ite_fr (fr_fX6_meets (nI 1) m f h39) (fr_wX6_read s sz m 31 0 nc m f h11 h12 h13)
set_option maxHeartbeats 4000000 in
set_option maxRecDepth 100000 in
theorem metX6_read (l : Launch) (X : Mx) (m : Mem) (s nc : Nat) (sz : Nat → Nat) (hnc : m 11 0 = nI nc) (lnc : nc ≤ 8) (hsz : ∀ j, j < 4 → m 36 j = nI (sz j)) (lsz : ∀ j, j < 4 → sz j < 61) (hs : s < 4) : Cn l yX6_read (ws_ yX6_read cX6_read 3 (some .int)) 4 0 0 [.ref (mx_ad X 40), .int (nI s)] (PicM X) (KM X) (mx_A X) m (fun rv_ w_ => rv_ = some (.int (rX6_read s nc sz m)) ∧ w_ = fX6_read s nc sz m) := by
  refine cn_i (own := RX6) rfl (Nat.le_of_ble_eq_true rfl) rfl (fun g hgl hA F hret => ?_)
  refine Wd.eql (lv' := [(0, .ref (mx_ad X 40)), (1, .int (nI s))]) rfl ?_
  have hz4 := lsz s hs
  have L : ¬ m 34 s = 0 → ∀ (fuel n c : Nat) (b : Mem), n + fuel = 31 → n ≤ 30 → 2 * n ≤ sz s + 1 → c ≤ 8 → b 11 0 = nI c → (∀ f : Nat, f ≠ 11 → f ≠ 12 → f ≠ 13 → b f = m f) → wX6_read s sz m fuel n c b = wX6_read s sz m 31 0 nc m → Wd (PicM X) g 3 b 0 0 27 [(0, .ref (mx_ad X 40)), (1, .int (nI s)), (2, .int (nI n))] [] := by
    intro ht fuel
    induction fuel with
    | zero =>
      intro n c b h1 h2
      exact absurd h1 (by omega)
    | succ fuel ih =>
      intro n c b hn hn30 hn2 lc_ hnc_ hf hres
      refine ro_iconst (v := (nI 2)) F dX6_read_27 (by decide) ?_
      refine ro_iload_n F dX6_read_28 2 rfl ?_
      refine ro_imulN F dX6_read_29 ?_
      refine ro_iconst (v := (nI 1)) F dX6_read_30 (by decide) ?_
      refine ro_iaddN F dX6_read_31 ?_
      refine ro_aload_n F dX6_read_32 0 rfl ?_
      refine mo_gr F 36 (Nat.le_of_ble_eq_true rfl) (by decide) lkX6_86 rfl dX6_read_33 ?_
      refine ro_iload_n F dX6_read_36 1 rfl ?_
      have hz := lsz s (by omega)
      refine mo_ldN F 36 4 rfl (by decide) (by decide) rfl (by omega) dX6_read_37 ((congrFun (hf 36 (by decide) (by decide) (by decide)) s).trans (hsz s (by omega))) ?_
      refine ro_icmp_geN (tgt := 82) F dX6_read_38 (by decide) (by omega) (by omega) (fun c38 => ?_) (fun c38 => ?_)
      · refine ro_iload_n F dX6_read_82 2 rfl ?_
        exact hret _ _ _ _ _ _ (Nat.le_refl _) (Nat.le_refl _) dX6_read_83 rfl ⟨by unfold rX6_read; rw [if_neg ht, ← hres]; simp only [wX6_read, if_pos c38], by unfold fX6_read; rw [if_neg ht, ← hres]; simp only [wX6_read, if_pos c38]⟩
      · refine ro_aload_n F dX6_read_41 0 rfl ?_
        refine ro_aload_n F dX6_read_42 0 rfl ?_
        refine mo_gr F 37 (Nat.le_of_ble_eq_true rfl) (by decide) lkX6_89 rfl dX6_read_43 ?_
        refine ro_bipush (v := (nI 60)) F dX6_read_46 (by decide) ?_
        refine ro_iload_n F dX6_read_48 1 rfl ?_
        refine ro_imulN F dX6_read_49 ?_
        refine ro_iconst (v := (nI 2)) F dX6_read_50 (by decide) ?_
        refine ro_iload_n F dX6_read_51 2 rfl ?_
        refine ro_imulN F dX6_read_52 ?_
        refine ro_iaddN F dX6_read_53 ?_
        refine mo_ldN F 37 240 rfl (by decide) (by decide) rfl (by omega) dX6_read_54 (congrFun (hf 37 (by decide) (by decide) (by decide)) ((60 * s) + (2 * n))) ?_
        refine ro_aload_n F dX6_read_55 0 rfl ?_
        refine mo_gr F 37 (Nat.le_of_ble_eq_true rfl) (by decide) lkX6_89 rfl dX6_read_56 ?_
        refine ro_bipush (v := (nI 60)) F dX6_read_59 (by decide) ?_
        refine ro_iload_n F dX6_read_61 1 rfl ?_
        refine ro_imulN F dX6_read_62 ?_
        refine ro_iconst (v := (nI 2)) F dX6_read_63 (by decide) ?_
        refine ro_iload_n F dX6_read_64 2 rfl ?_
        refine ro_imulN F dX6_read_65 ?_
        refine ro_iaddN F dX6_read_66 ?_
        refine ro_iconst (v := (nI 1)) F dX6_read_67 (by decide) ?_
        refine ro_iaddN F dX6_read_68 ?_
        refine mo_ldN F 37 240 rfl (by decide) (by decide) rfl (by omega) dX6_read_69 (congrFun (hf 37 (by decide) (by decide) (by decide)) (((60 * s) + (2 * n)) + 1)) ?_
        refine mo_cV (rest := []) F hA (metX6_call (gx_l g) X b (m 37 ((60 * s) + (2 * n))) (m 37 (((60 * s) + (2 * n)) + 1)) c hnc_ (by omega)) cwX6_168 hdX6_call rfl (Nat.le_of_ble_eq_true rfl) (Nat.le_of_ble_eq_true rfl) (Nat.le_refl _) (Nat.le_refl _) rfl (Nat.le_of_ble_eq_true rfl) dX6_read_70 ?_
        refine ro_if_le (tgt := 82) F dX6_read_73 (by decide) (fun c73 => ?_) (fun c73 => ?_)
        · refine ro_iload_n F dX6_read_82 2 rfl ?_
          exact hret _ _ _ _ _ _ (Nat.le_refl _) (Nat.le_refl _) dX6_read_83 rfl ⟨by unfold rX6_read; rw [if_neg ht, ← hres]; simp only [wX6_read, if_neg (Nat.not_le.mpr c38), if_pos c73], by unfold fX6_read; rw [if_neg ht, ← hres]; simp only [wX6_read, if_neg (Nat.not_le.mpr c38), if_pos c73]⟩
        · refine ro_iincN (z := 1) (lv' := [(0, .ref (mx_ad X 40)), (1, .int (nI s)), (2, .int (nI (n + 1)))]) F dX6_read_76 2 rfl (Nat.le_of_ble_eq_true rfl) [1, 2, 0] rfl ?_
          refine ro_goto (tgt := 27) F dX6_read_79 (by decide) ?_
          obtain ⟨hq1, hq2⟩ := call_ok (b := b) lc_ c73
          exact ih _ _ _ (by omega) (by omega) (by omega) (by omega) hq2 (fun f h11 h12 h13 => ((fr_fX6_call (m 37 ((60 * s) + (2 * n))) (m 37 (((60 * s) + (2 * n)) + 1)) c b f h11 h12 h13).trans (rfl)).trans (hf f h11 h12 h13)) (by rw [← hres]; simp only [wX6_read, if_neg (Nat.not_le.mpr c38), if_neg c73])
  refine ro_iload_n F dX6_read_0 1 rfl ?_
  refine mo_cS (rest := []) F hA (metX6_isSheet (gx_l g) X m (nI s) ) cwX6_162 hdX6_isSheet rfl (Nat.le_of_ble_eq_true rfl) (Nat.le_of_ble_eq_true rfl) (Nat.le_refl _) (Nat.le_refl _) rfl (Nat.le_of_ble_eq_true rfl) dX6_read_1 ?_
  refine ro_if_neB (tgt := 10) F dX6_read_4 (by decide) (fun c4 => ?_) (fun c4 => absurd (in_ok (by omega) (by omega) (by decide)) c4)
  refine ro_aload_n F dX6_read_10 0 rfl ?_
  refine mo_gr F 34 (Nat.le_of_ble_eq_true rfl) (by decide) lkX6_80 rfl dX6_read_11 ?_
  refine ro_iload_n F dX6_read_14 1 rfl ?_
  refine mo_ldZ F 34 4 rfl (by decide) (by decide) rfl (by omega) dX6_read_15 rfl ?_
  refine ro_if_ne (tgt := 25) F dX6_read_16 (by decide) (fun c16 => ?_) (fun c16 => ?_)
  · refine ro_iconst (v := (nI 0)) F dX6_read_25 (by decide) ?_
    refine ro_istore_n (lv' := [(0, .ref (mx_ad X 40)), (1, .int (nI s)), (2, .int (nI 0))]) F dX6_read_26 (Nat.le_of_ble_eq_true rfl) [1, 2, 0] rfl ?_
    exact L c16 31 0 nc m rfl (by decide) (by omega) lnc hnc (fun f _ _ _ => rfl) rfl
  · refine ro_aload_n F dX6_read_19 0 rfl ?_
    refine ro_iconst (v := (nI 1)) F dX6_read_20 (by decide) ?_
    refine mo_cV (rest := []) F hA (metX6_meets (gx_l g) X m (nI 1) ) cwX6_165 hdX6_meets rfl (Nat.le_of_ble_eq_true rfl) (Nat.le_of_ble_eq_true rfl) (Nat.le_refl _) (Nat.le_refl _) rfl (Nat.le_of_ble_eq_true rfl) dX6_read_21 ?_
    exact hret _ _ _ _ _ _ (Nat.le_refl _) (Nat.le_refl _) dX6_read_24 rfl ⟨by unfold rX6_read; rw [if_pos c16]; rfl, by unfold fX6_read; rw [if_pos c16]⟩
set_option maxHeartbeats 4000000 in
set_option maxRecDepth 100000 in
theorem metX6_read_no (l : Launch) (X : Mx) (m : Mem) (s : Int32)  (hb : ¬ (¬ (s < nI 0) ∧ ¬ (nI 3 < s))) : Cn l yX6_read (ws_ yX6_read cX6_read 3 (some .int)) 4 0 0 [.ref (mx_ad X 40), .int s] (PicM X) (KM X) (mx_A X) m (fun rv_ w_ => rv_ = some (.int (-2)) ∧ w_ = m) := by
  refine cn_i (own := RX6) rfl (Nat.le_of_ble_eq_true rfl) rfl (fun g hgl hA F hret => ?_)
  refine Wd.eql (lv' := [(0, .ref (mx_ad X 40)), (1, .int s)]) rfl ?_
  refine ro_iload_n F dX6_read_0 1 rfl ?_
  refine mo_cS (rest := []) F hA (metX6_isSheet (gx_l g) X m s ) cwX6_162 hdX6_isSheet rfl (Nat.le_of_ble_eq_true rfl) (Nat.le_of_ble_eq_true rfl) (Nat.le_refl _) (Nat.le_refl _) rfl (Nat.le_of_ble_eq_true rfl) dX6_read_1 ?_
  refine ro_if_neB (tgt := 10) F dX6_read_4 (by decide) (fun c4 => absurd c4 hb) (fun c4 => ?_)
  refine ro_bipush (v := (-2)) F dX6_read_7 (by decide) ?_
  exact hret _ _ _ _ _ _ (Nat.le_refl _) (Nat.le_refl _) dX6_read_9 rfl ⟨rfl, rfl⟩
