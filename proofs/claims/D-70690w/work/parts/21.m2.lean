theorem le_ite {c : Prop} [Decidable c] {a b k : Nat} (h1 : a ≤ k) (h2 : b ≤ k) : (if c then a else b) ≤ k := by
  by_cases h : c
  · rw [if_pos h]; exact h1
  · rw [if_neg h]; exact h2
theorem le_readsSaver (a : Nat) (tl : Nat → Nat) (b : Mem) : rX6_readsSaver a tl b ≤ 3 := by
  unfold rX6_readsSaver
  repeat' split
  all_goals decide
theorem le_readsPartner (a : Nat) (tl : Nat → Nat) (b : Mem) : rX6_readsPartner a tl b ≤ 3 := by
  unfold rX6_readsPartner
  repeat' split
  all_goals decide
noncomputable def wX6_readsParts0 (tl : Nat → Nat) (m : Mem) : Nat → Nat → Nat → Mem → Int32 × Mem
  | 0, _, _, b => (0, b)
  | fuel + 1, n, at_, b => (if at_ < (tl 0) then (if 3 ≤ (if n = 8 then 0 else (rX6_readsSaver at_ tl b)) then (if (at_ + 3) = (tl 0) then ((-1), (m2 (if n = 8 then b else (fX6_readsSaver n at_ tl b)) 2 0 (nI (n + 1)))) else (if (rX6_byteAt 0 (at_ + 3) tl (if n = 8 then b else (fX6_readsSaver n at_ tl b))) = (nI 59) then wX6_readsParts0 tl m fuel (n + 1) (at_ + 3 + 1) (if n = 8 then b else (fX6_readsSaver n at_ tl b)) else ((nI (at_ + 3)), (if n = 8 then b else (fX6_readsSaver n at_ tl b))))) else ((nI (at_ + (if n = 8 then 0 else (rX6_readsSaver at_ tl b)))), (if n = 8 then b else (fX6_readsSaver n at_ tl b)))) else (if at_ = 0 then ((-1), b) else (if 3 ≤ (if n = 8 then 0 else (rX6_readsSaver at_ tl b)) then (if (at_ + 3) = (tl 0) then ((-1), (m2 (if n = 8 then b else (fX6_readsSaver n at_ tl b)) 2 0 (nI (n + 1)))) else (if (rX6_byteAt 0 (at_ + 3) tl (if n = 8 then b else (fX6_readsSaver n at_ tl b))) = (nI 59) then wX6_readsParts0 tl m fuel (n + 1) (at_ + 3 + 1) (if n = 8 then b else (fX6_readsSaver n at_ tl b)) else ((nI (at_ + 3)), (if n = 8 then b else (fX6_readsSaver n at_ tl b))))) else ((nI (at_ + (if n = 8 then 0 else (rX6_readsSaver at_ tl b)))), (if n = 8 then b else (fX6_readsSaver n at_ tl b))))))
theorem fr_wX6_readsParts0 (tl : Nat → Nat) (m : Mem) : ∀ (fuel n at_ : Nat) (b : Mem) (f : Nat) (h2 : f ≠ 2) (h3 : f ≠ 3) (h4 : f ≠ 4) (h5 : f ≠ 5) , (wX6_readsParts0 tl m fuel n at_ b).2 f = b f
  | 0, n, at_, b, f, _, _, _, _ => rfl
  | fuel + 1, n, at_, b, f, h2, h3, h4, h5 => ite_fr2 (ite_fr2 (ite_fr2 ((m2_ff _ _ h2).trans (ite_fr (rfl) ((fr_fX6_readsSaver n at_ tl b f h3 h4 h5).trans (rfl)))) (ite_fr2 ((fr_wX6_readsParts0 tl m fuel (n + 1) (at_ + 3 + 1) (if n = 8 then b else (fX6_readsSaver n at_ tl b)) f h2 h3 h4 h5).trans (ite_fr (rfl) ((fr_fX6_readsSaver n at_ tl b f h3 h4 h5).trans (rfl)))) (ite_fr (rfl) ((fr_fX6_readsSaver n at_ tl b f h3 h4 h5).trans (rfl))))) (ite_fr (rfl) ((fr_fX6_readsSaver n at_ tl b f h3 h4 h5).trans (rfl)))) (ite_fr2 (rfl) (ite_fr2 (ite_fr2 ((m2_ff _ _ h2).trans (ite_fr (rfl) ((fr_fX6_readsSaver n at_ tl b f h3 h4 h5).trans (rfl)))) (ite_fr2 ((fr_wX6_readsParts0 tl m fuel (n + 1) (at_ + 3 + 1) (if n = 8 then b else (fX6_readsSaver n at_ tl b)) f h2 h3 h4 h5).trans (ite_fr (rfl) ((fr_fX6_readsSaver n at_ tl b f h3 h4 h5).trans (rfl)))) (ite_fr (rfl) ((fr_fX6_readsSaver n at_ tl b f h3 h4 h5).trans (rfl))))) (ite_fr (rfl) ((fr_fX6_readsSaver n at_ tl b f h3 h4 h5).trans (rfl)))))
noncomputable def rX6_readsParts0 (tl : Nat → Nat) (m : Mem) : Int32 := (wX6_readsParts0 tl m 9 0 0 (m2 m 2 0 (nI 0))).1
noncomputable def fX6_readsParts0 (tl : Nat → Nat) (m : Mem) : Mem := (wX6_readsParts0 tl m 9 0 0 (m2 m 2 0 (nI 0))).2
theorem fr_fX6_readsParts0 (tl : Nat → Nat) (m : Mem) (f : Nat) (h2 : f ≠ 2) (h3 : f ≠ 3) (h4 : f ≠ 4) (h5 : f ≠ 5) : fX6_readsParts0 tl m f = m f := (fr_wX6_readsParts0 tl m 9 0 0 _ f h2 h3 h4 h5).trans ((m2_ff _ _ h2).trans (rfl))
set_option maxHeartbeats 4000000 in
set_option maxRecDepth 100000 in
theorem metX6_readsParts0 (l : Launch) (X : Mx) (m : Mem) (tl : Nat → Nat) (htl : ∀ t, t < 2 → m 0 t = nI (tl t)) (ltl : ∀ t, tl t ≤ 31) : Cn l yX6_readsParts (ws_ yX6_readsParts cX6_readsParts 6 (some .int)) 4 0 0 [.ref (mx_ad X 40), .int (nI 0)] (PicM X) (KM X) (mx_A X) m (fun rv_ w_ => rv_ = some (.int (rX6_readsParts0 tl m)) ∧ w_ = fX6_readsParts0 tl m) := by
  refine cn_i (own := RX6) rfl (Nat.le_of_ble_eq_true rfl) rfl (fun g hgl hA F hret => ?_)
  refine Wd.eql (lv' := [(0, .ref (mx_ad X 40)), (1, .int (nI 0))]) rfl ?_
  have L : ∀ (fuel n at_ : Nat) (b : Mem), n + fuel = 9 → n ≤ 8 → at_ = 4 * n → (∀ f : Nat, f ≠ 2 → f ≠ 3 → f ≠ 4 → f ≠ 5 → b f = (m2 m 2 0 (nI 0)) f) → wX6_readsParts0 tl m fuel n at_ b = wX6_readsParts0 tl m 9 0 0 (m2 m 2 0 (nI 0)) → Wd (PicM X) g 6 b 0 0 48 [(0, .ref (mx_ad X 40)), (1, .int (nI 0)), (2, .int (nI 3)), (3, .int (nI n)), (4, .int (nI at_))] [] := by
    intro fuel
    induction fuel with
    | zero =>
      intro n at_ b h1 h2
      exact absurd h1 (by omega)
    | succ fuel ih =>
      intro n at_ b hn hn8 hat hf hres
      refine ro_iload F dX6_readsParts_48 4 rfl ?_
      refine ro_aload_n F dX6_readsParts_50 0 rfl ?_
      refine mo_gr F 0 (Nat.le_of_ble_eq_true rfl) (by decide) lkX6_7 rfl dX6_readsParts_51 ?_
      refine ro_iload_n F dX6_readsParts_54 1 rfl ?_
      have hz := ltl 0
      refine mo_ldN F 0 2 rfl (by decide) (by decide) rfl (by omega) dX6_readsParts_55 ((congrFun (hf 0 (by decide) (by decide) (by decide) (by decide)) 0).trans ((m2_f _ _ (by decide)).trans (htl 0 (by omega)))) ?_
      refine ro_icmp_ltN (tgt := 64) F dX6_readsParts_56 (by decide) (by omega) (by omega) (fun c56 => ?_) (fun c56 => ?_)
      · refine ro_iload_n F dX6_readsParts_64 3 rfl ?_
        refine ro_bipush (v := (nI 8)) F dX6_readsParts_65 (by decide) ?_
        have J95_67 : Wd (PicM X) g 6 (if n = 8 then b else (fX6_readsSaver n at_ tl b)) 0 0 95 [(0, .ref (mx_ad X 40)), (1, .int (nI 0)), (2, .int (nI 3)), (3, .int (nI n)), (4, .int (nI at_))] [.int (nI (if n = 8 then 0 else (rX6_readsSaver at_ tl b)))] := by
          refine ro_istore (lv' := [(0, .ref (mx_ad X 40)), (1, .int (nI 0)), (2, .int (nI 3)), (3, .int (nI n)), (4, .int (nI at_)), (5, .int (nI (if n = 8 then 0 else (rX6_readsSaver at_ tl b))))]) F dX6_readsParts_95 (Nat.le_of_ble_eq_true rfl) [1, 2, 3, 4, 5, 0] rfl ?_
          refine ro_iload F dX6_readsParts_97 5 rfl ?_
          refine ro_iload_n F dX6_readsParts_99 2 rfl ?_
          have hg : (if n = 8 then 0 else rX6_readsSaver at_ tl b) ≤ 3 := le_ite (by decide) (le_readsSaver at_ tl b)
          refine ro_icmp_geN (tgt := 109) F dX6_readsParts_100 (by decide) (by omega) (by omega) (fun c100 => ?_) (fun c100 => ?_)
          · refine ro_iincN (z := 1) (lv' := [(0, .ref (mx_ad X 40)), (1, .int (nI 0)), (2, .int (nI 3)), (3, .int (nI (n + 1))), (4, .int (nI at_)), (5, .int (nI (if n = 8 then 0 else (rX6_readsSaver at_ tl b))))]) F dX6_readsParts_109 3 rfl (Nat.le_of_ble_eq_true rfl) [1, 2, 3, 0, 4, 5] rfl ?_
            refine ro_iload F dX6_readsParts_112 4 rfl ?_
            refine ro_iload_n F dX6_readsParts_114 2 rfl ?_
            refine ro_iaddN F dX6_readsParts_115 ?_
            refine ro_istore (lv' := [(0, .ref (mx_ad X 40)), (1, .int (nI 0)), (2, .int (nI 3)), (3, .int (nI (n + 1))), (4, .int (nI (at_ + 3))), (5, .int (nI (if n = 8 then 0 else (rX6_readsSaver at_ tl b))))]) F dX6_readsParts_116 (Nat.le_of_ble_eq_true rfl) [1, 2, 3, 4, 0, 5] rfl ?_
            refine ro_iload F dX6_readsParts_118 4 rfl ?_
            refine ro_aload_n F dX6_readsParts_120 0 rfl ?_
            refine mo_gr F 0 (Nat.le_of_ble_eq_true rfl) (by decide) lkX6_7 rfl dX6_readsParts_121 ?_
            refine ro_iload_n F dX6_readsParts_124 1 rfl ?_
            have hz := ltl 0
            refine mo_ldN F 0 2 rfl (by decide) (by decide) rfl (by omega) dX6_readsParts_125 (ite_rd ((congrFun (hf 0 (by decide) (by decide) (by decide) (by decide)) 0).trans ((m2_f _ _ (by decide)).trans (htl 0 (by omega)))) ((congrFun (fr_fX6_readsSaver n at_ tl b 0 (by decide) (by decide) (by decide)) 0).trans ((congrFun (hf 0 (by decide) (by decide) (by decide) (by decide)) 0).trans ((m2_f _ _ (by decide)).trans (htl 0 (by omega)))))) ?_
            refine ro_icmp_neN (tgt := 164) F dX6_readsParts_126 (by decide) (by omega) (by omega) (fun c126 => ?_) (fun c126 => ?_)
            · refine ro_aload_n F dX6_readsParts_164 0 rfl ?_
              refine ro_iload_n F dX6_readsParts_165 1 rfl ?_
              refine ro_iload F dX6_readsParts_166 4 rfl ?_
              refine mo_cV (rest := []) F hA (metX6_byteAt (gx_l g) X (if n = 8 then b else (fX6_readsSaver n at_ tl b)) 0 (at_ + 3) tl (by rw [show (if n = 8 then b else (fX6_readsSaver n at_ tl b)) 0 = _ from ite_fr ((hf 0 (by decide) (by decide) (by decide) (by decide)).trans (m2_ff _ _ (by decide))) ((fr_fX6_readsSaver n at_ tl b 0 (by decide) (by decide) (by decide)).trans ((hf 0 (by decide) (by decide) (by decide) (by decide)).trans (m2_ff _ _ (by decide))))]; exact htl) ltl (by omega) (by omega)) cwX6_112 hdX6_byteAt rfl (Nat.le_of_ble_eq_true rfl) (Nat.le_of_ble_eq_true rfl) (Nat.le_refl _) (Nat.le_refl _) rfl (Nat.le_of_ble_eq_true rfl) dX6_readsParts_168 ?_
              refine ro_bipush (v := (nI 59)) F dX6_readsParts_171 (by decide) ?_
              refine ro_icmp_eq (tgt := 179) F dX6_readsParts_173 (by decide) (fun c173 => ?_) (fun c173 => ?_)
              · refine ro_iincN (z := 1) (lv' := [(0, .ref (mx_ad X 40)), (1, .int (nI 0)), (2, .int (nI 3)), (3, .int (nI (n + 1))), (4, .int (nI (at_ + 3 + 1))), (5, .int (nI (if n = 8 then 0 else (rX6_readsSaver at_ tl b))))]) F dX6_readsParts_179 4 rfl (Nat.le_of_ble_eq_true rfl) [1, 2, 3, 4, 0, 5] rfl ?_
                refine ro_goto (tgt := 48) F dX6_readsParts_182 (by decide) ?_
                have hq : n ≠ 8 := fun q => by
                  rw [if_pos q] at c100
                  exact absurd c100 (by decide)
                exact Wd.sub (lv' := [(0, .ref (mx_ad X 40)), (1, .int (nI 0)), (2, .int (nI 3)), (3, .int (nI (n + 1))), (4, .int (nI (at_ + 3 + 1)))]) [0, 1, 2, 3, 4] rfl <| ih _ _ _ (by omega) (by omega) (by omega) (fun f h2 h3 h4 h5 => (ite_fr (rfl) ((fr_fX6_readsSaver n at_ tl b f h3 h4 h5).trans (rfl))).trans (hf f h2 h3 h4 h5)) (by rw [← hres]; simp only [wX6_readsParts0, if_pos c56, if_pos c100, if_neg c126, if_pos c173])
              · refine ro_iload F dX6_readsParts_176 4 rfl ?_
                exact hret _ _ _ _ _ _ (Nat.le_refl _) (Nat.le_refl _) dX6_readsParts_178 rfl ⟨by unfold rX6_readsParts0; rw [← hres]; simp only [wX6_readsParts0, if_pos c56, if_pos c100, if_neg c126, if_neg c173], by unfold fX6_readsParts0; rw [← hres]; simp only [wX6_readsParts0, if_pos c56, if_pos c100, if_neg c126, if_neg c173]⟩
            · refine ro_aload_n F dX6_readsParts_129 0 rfl ?_
              refine ro_iload_n F dX6_readsParts_130 1 rfl ?_
              refine ro_if_neN (tgt := 138) F dX6_readsParts_131 (by decide) (by omega) (fun c131 => absurd c131 (by decide)) (fun c131 => ?_)
              refine ro_iload_n F dX6_readsParts_134 3 rfl ?_
              refine ro_goto (tgt := 142) F dX6_readsParts_135 (by decide) ?_
              refine mo_put F hA 2 (Nat.le_of_ble_eq_true rfl) rfl rfl rfl lkX6_122 rfl dX6_readsParts_142 ?_
              refine ro_aload_n F dX6_readsParts_145 0 rfl ?_
              refine ro_iload_n F dX6_readsParts_146 1 rfl ?_
              refine ro_iconst (v := (nI 1)) F dX6_readsParts_147 (by decide) ?_
              refine ro_icmp_neN (tgt := 155) F dX6_readsParts_148 (by decide) (by omega) (by omega) (fun c148 => ?_) (fun c148 => absurd c148 (by decide))
              refine ro_aload_n F dX6_readsParts_155 0 rfl ?_
              refine mo_gi F 6 (Nat.le_of_ble_eq_true rfl) rfl lkX6_125 rfl dX6_readsParts_156 ((m2_f _ _ (by decide)).trans (ite_rd ((congrFun (hf 6 (by decide) (by decide) (by decide) (by decide)) 0).trans (m2_f _ _ (by decide))) ((congrFun (fr_fX6_readsSaver n at_ tl b 6 (by decide) (by decide) (by decide)) 0).trans ((congrFun (hf 6 (by decide) (by decide) (by decide) (by decide)) 0).trans (m2_f _ _ (by decide)))))) ?_
              refine mo_put F hA 6 (Nat.le_of_ble_eq_true rfl) rfl rfl rfl lkX6_125 rfl dX6_readsParts_159 ?_
              refine Wd.eqw (m2_id ((m2_f _ _ (by decide)).trans (ite_rd ((congrFun (hf 6 (by decide) (by decide) (by decide) (by decide)) 0).trans (m2_f _ _ (by decide))) ((congrFun (fr_fX6_readsSaver n at_ tl b 6 (by decide) (by decide) (by decide)) 0).trans ((congrFun (hf 6 (by decide) (by decide) (by decide) (by decide)) 0).trans (m2_f _ _ (by decide))))))) ?_
              refine ro_iconst (v := (-1)) F dX6_readsParts_162 (by decide) ?_
              exact hret _ _ _ _ _ _ (Nat.le_refl _) (Nat.le_refl _) dX6_readsParts_163 rfl ⟨by unfold rX6_readsParts0; rw [← hres]; simp only [wX6_readsParts0, if_pos c56, if_pos c100, if_pos c126, if_pos c131, if_neg c148], by unfold fX6_readsParts0; rw [← hres]; simp only [wX6_readsParts0, if_pos c56, if_pos c100, if_pos c126, if_pos c131, if_neg c148]⟩
          · refine ro_iload F dX6_readsParts_103 4 rfl ?_
            refine ro_iload F dX6_readsParts_105 5 rfl ?_
            refine ro_iaddN F dX6_readsParts_107 ?_
            exact hret _ _ _ _ _ _ (Nat.le_refl _) (Nat.le_refl _) dX6_readsParts_108 rfl ⟨by unfold rX6_readsParts0; rw [← hres]; simp only [wX6_readsParts0, if_pos c56, if_neg (Nat.not_le.mpr c100)], by unfold fX6_readsParts0; rw [← hres]; simp only [wX6_readsParts0, if_pos c56, if_neg (Nat.not_le.mpr c100)]⟩
        refine ro_icmp_neN (tgt := 74) F dX6_readsParts_67 (by decide) (by omega) (by omega) (fun c67 => ?_) (fun c67 => ?_)
        · refine ro_iload_n F dX6_readsParts_74 1 rfl ?_
          refine ro_if_neN (tgt := 88) F dX6_readsParts_75 (by decide) (by omega) (fun c75 => absurd c75 (by decide)) (fun c75 => ?_)
          refine ro_aload_n F dX6_readsParts_78 0 rfl ?_
          refine ro_iload_n F dX6_readsParts_79 3 rfl ?_
          refine ro_iload F dX6_readsParts_80 4 rfl ?_
          refine mo_cV (rest := []) F hA (metX6_readsSaver (gx_l g) X b n at_ tl (by rw [show b 0 = _ from (hf 0 (by decide) (by decide) (by decide) (by decide)).trans (m2_ff _ _ (by decide))]; exact htl) ltl (by omega) (by omega)) cwX6_128 hdX6_readsSaver rfl (Nat.le_of_ble_eq_true rfl) (Nat.le_of_ble_eq_true rfl) (Nat.le_refl _) (Nat.le_refl _) rfl (Nat.le_of_ble_eq_true rfl) dX6_readsParts_82 ?_
          refine ro_goto (tgt := 95) F dX6_readsParts_85 (by decide) ?_
          exact Wd.to J95_67 (by simp only [if_neg c67, if_pos c75]) rfl (congrArg (fun z => ([Value.int z] : List Value)) (congrArg nI (by simp only [if_neg c67, if_pos c75])))
        · refine ro_iconst (v := (nI 0)) F dX6_readsParts_70 (by decide) ?_
          refine ro_goto (tgt := 95) F dX6_readsParts_71 (by decide) ?_
          exact Wd.to J95_67 (by simp only [if_pos c67]) rfl (congrArg (fun z => ([Value.int z] : List Value)) (congrArg nI (by simp only [if_pos c67])))
      · refine ro_iload F dX6_readsParts_59 4 rfl ?_
        refine ro_if_leN (tgt := 185) F dX6_readsParts_61 (by decide) (by omega) (fun c61 => ?_) (fun c61 => ?_)
        · refine ro_iconst (v := (-1)) F dX6_readsParts_185 (by decide) ?_
          exact hret _ _ _ _ _ _ (Nat.le_refl _) (Nat.le_refl _) dX6_readsParts_186 rfl ⟨by unfold rX6_readsParts0; rw [← hres]; simp only [wX6_readsParts0, if_neg (Nat.not_lt.mpr c56), if_pos c61], by unfold fX6_readsParts0; rw [← hres]; simp only [wX6_readsParts0, if_neg (Nat.not_lt.mpr c56), if_pos c61]⟩
        · refine ro_iload_n F dX6_readsParts_64 3 rfl ?_
          refine ro_bipush (v := (nI 8)) F dX6_readsParts_65 (by decide) ?_
          have J95_67 : Wd (PicM X) g 6 (if n = 8 then b else (fX6_readsSaver n at_ tl b)) 0 0 95 [(0, .ref (mx_ad X 40)), (1, .int (nI 0)), (2, .int (nI 3)), (3, .int (nI n)), (4, .int (nI at_))] [.int (nI (if n = 8 then 0 else (rX6_readsSaver at_ tl b)))] := by
            refine ro_istore (lv' := [(0, .ref (mx_ad X 40)), (1, .int (nI 0)), (2, .int (nI 3)), (3, .int (nI n)), (4, .int (nI at_)), (5, .int (nI (if n = 8 then 0 else (rX6_readsSaver at_ tl b))))]) F dX6_readsParts_95 (Nat.le_of_ble_eq_true rfl) [1, 2, 3, 4, 5, 0] rfl ?_
            refine ro_iload F dX6_readsParts_97 5 rfl ?_
            refine ro_iload_n F dX6_readsParts_99 2 rfl ?_
            have hg : (if n = 8 then 0 else rX6_readsSaver at_ tl b) ≤ 3 := le_ite (by decide) (le_readsSaver at_ tl b)
            refine ro_icmp_geN (tgt := 109) F dX6_readsParts_100 (by decide) (by omega) (by omega) (fun c100 => ?_) (fun c100 => ?_)
            · refine ro_iincN (z := 1) (lv' := [(0, .ref (mx_ad X 40)), (1, .int (nI 0)), (2, .int (nI 3)), (3, .int (nI (n + 1))), (4, .int (nI at_)), (5, .int (nI (if n = 8 then 0 else (rX6_readsSaver at_ tl b))))]) F dX6_readsParts_109 3 rfl (Nat.le_of_ble_eq_true rfl) [1, 2, 3, 0, 4, 5] rfl ?_
              refine ro_iload F dX6_readsParts_112 4 rfl ?_
              refine ro_iload_n F dX6_readsParts_114 2 rfl ?_
              refine ro_iaddN F dX6_readsParts_115 ?_
              refine ro_istore (lv' := [(0, .ref (mx_ad X 40)), (1, .int (nI 0)), (2, .int (nI 3)), (3, .int (nI (n + 1))), (4, .int (nI (at_ + 3))), (5, .int (nI (if n = 8 then 0 else (rX6_readsSaver at_ tl b))))]) F dX6_readsParts_116 (Nat.le_of_ble_eq_true rfl) [1, 2, 3, 4, 0, 5] rfl ?_
              refine ro_iload F dX6_readsParts_118 4 rfl ?_
              refine ro_aload_n F dX6_readsParts_120 0 rfl ?_
              refine mo_gr F 0 (Nat.le_of_ble_eq_true rfl) (by decide) lkX6_7 rfl dX6_readsParts_121 ?_
              refine ro_iload_n F dX6_readsParts_124 1 rfl ?_
              have hz := ltl 0
              refine mo_ldN F 0 2 rfl (by decide) (by decide) rfl (by omega) dX6_readsParts_125 (ite_rd ((congrFun (hf 0 (by decide) (by decide) (by decide) (by decide)) 0).trans ((m2_f _ _ (by decide)).trans (htl 0 (by omega)))) ((congrFun (fr_fX6_readsSaver n at_ tl b 0 (by decide) (by decide) (by decide)) 0).trans ((congrFun (hf 0 (by decide) (by decide) (by decide) (by decide)) 0).trans ((m2_f _ _ (by decide)).trans (htl 0 (by omega)))))) ?_
              refine ro_icmp_neN (tgt := 164) F dX6_readsParts_126 (by decide) (by omega) (by omega) (fun c126 => ?_) (fun c126 => ?_)
              · refine ro_aload_n F dX6_readsParts_164 0 rfl ?_
                refine ro_iload_n F dX6_readsParts_165 1 rfl ?_
                refine ro_iload F dX6_readsParts_166 4 rfl ?_
                refine mo_cV (rest := []) F hA (metX6_byteAt (gx_l g) X (if n = 8 then b else (fX6_readsSaver n at_ tl b)) 0 (at_ + 3) tl (by rw [show (if n = 8 then b else (fX6_readsSaver n at_ tl b)) 0 = _ from ite_fr ((hf 0 (by decide) (by decide) (by decide) (by decide)).trans (m2_ff _ _ (by decide))) ((fr_fX6_readsSaver n at_ tl b 0 (by decide) (by decide) (by decide)).trans ((hf 0 (by decide) (by decide) (by decide) (by decide)).trans (m2_ff _ _ (by decide))))]; exact htl) ltl (by omega) (by omega)) cwX6_112 hdX6_byteAt rfl (Nat.le_of_ble_eq_true rfl) (Nat.le_of_ble_eq_true rfl) (Nat.le_refl _) (Nat.le_refl _) rfl (Nat.le_of_ble_eq_true rfl) dX6_readsParts_168 ?_
                refine ro_bipush (v := (nI 59)) F dX6_readsParts_171 (by decide) ?_
                refine ro_icmp_eq (tgt := 179) F dX6_readsParts_173 (by decide) (fun c173 => ?_) (fun c173 => ?_)
                · refine ro_iincN (z := 1) (lv' := [(0, .ref (mx_ad X 40)), (1, .int (nI 0)), (2, .int (nI 3)), (3, .int (nI (n + 1))), (4, .int (nI (at_ + 3 + 1))), (5, .int (nI (if n = 8 then 0 else (rX6_readsSaver at_ tl b))))]) F dX6_readsParts_179 4 rfl (Nat.le_of_ble_eq_true rfl) [1, 2, 3, 4, 0, 5] rfl ?_
                  refine ro_goto (tgt := 48) F dX6_readsParts_182 (by decide) ?_
                  have hq : n ≠ 8 := fun q => by
                    rw [if_pos q] at c100
                    exact absurd c100 (by decide)
                  exact Wd.sub (lv' := [(0, .ref (mx_ad X 40)), (1, .int (nI 0)), (2, .int (nI 3)), (3, .int (nI (n + 1))), (4, .int (nI (at_ + 3 + 1)))]) [0, 1, 2, 3, 4] rfl <| ih _ _ _ (by omega) (by omega) (by omega) (fun f h2 h3 h4 h5 => (ite_fr (rfl) ((fr_fX6_readsSaver n at_ tl b f h3 h4 h5).trans (rfl))).trans (hf f h2 h3 h4 h5)) (by rw [← hres]; simp only [wX6_readsParts0, if_neg (Nat.not_lt.mpr c56), if_neg c61, if_pos c100, if_neg c126, if_pos c173])
                · refine ro_iload F dX6_readsParts_176 4 rfl ?_
                  exact hret _ _ _ _ _ _ (Nat.le_refl _) (Nat.le_refl _) dX6_readsParts_178 rfl ⟨by unfold rX6_readsParts0; rw [← hres]; simp only [wX6_readsParts0, if_neg (Nat.not_lt.mpr c56), if_neg c61, if_pos c100, if_neg c126, if_neg c173], by unfold fX6_readsParts0; rw [← hres]; simp only [wX6_readsParts0, if_neg (Nat.not_lt.mpr c56), if_neg c61, if_pos c100, if_neg c126, if_neg c173]⟩
              · refine ro_aload_n F dX6_readsParts_129 0 rfl ?_
                refine ro_iload_n F dX6_readsParts_130 1 rfl ?_
                refine ro_if_neN (tgt := 138) F dX6_readsParts_131 (by decide) (by omega) (fun c131 => absurd c131 (by decide)) (fun c131 => ?_)
                refine ro_iload_n F dX6_readsParts_134 3 rfl ?_
                refine ro_goto (tgt := 142) F dX6_readsParts_135 (by decide) ?_
                refine mo_put F hA 2 (Nat.le_of_ble_eq_true rfl) rfl rfl rfl lkX6_122 rfl dX6_readsParts_142 ?_
                refine ro_aload_n F dX6_readsParts_145 0 rfl ?_
                refine ro_iload_n F dX6_readsParts_146 1 rfl ?_
                refine ro_iconst (v := (nI 1)) F dX6_readsParts_147 (by decide) ?_
                refine ro_icmp_neN (tgt := 155) F dX6_readsParts_148 (by decide) (by omega) (by omega) (fun c148 => ?_) (fun c148 => absurd c148 (by decide))
                refine ro_aload_n F dX6_readsParts_155 0 rfl ?_
                refine mo_gi F 6 (Nat.le_of_ble_eq_true rfl) rfl lkX6_125 rfl dX6_readsParts_156 ((m2_f _ _ (by decide)).trans (ite_rd ((congrFun (hf 6 (by decide) (by decide) (by decide) (by decide)) 0).trans (m2_f _ _ (by decide))) ((congrFun (fr_fX6_readsSaver n at_ tl b 6 (by decide) (by decide) (by decide)) 0).trans ((congrFun (hf 6 (by decide) (by decide) (by decide) (by decide)) 0).trans (m2_f _ _ (by decide)))))) ?_
                refine mo_put F hA 6 (Nat.le_of_ble_eq_true rfl) rfl rfl rfl lkX6_125 rfl dX6_readsParts_159 ?_
                refine Wd.eqw (m2_id ((m2_f _ _ (by decide)).trans (ite_rd ((congrFun (hf 6 (by decide) (by decide) (by decide) (by decide)) 0).trans (m2_f _ _ (by decide))) ((congrFun (fr_fX6_readsSaver n at_ tl b 6 (by decide) (by decide) (by decide)) 0).trans ((congrFun (hf 6 (by decide) (by decide) (by decide) (by decide)) 0).trans (m2_f _ _ (by decide))))))) ?_
                refine ro_iconst (v := (-1)) F dX6_readsParts_162 (by decide) ?_
                exact hret _ _ _ _ _ _ (Nat.le_refl _) (Nat.le_refl _) dX6_readsParts_163 rfl ⟨by unfold rX6_readsParts0; rw [← hres]; simp only [wX6_readsParts0, if_neg (Nat.not_lt.mpr c56), if_neg c61, if_pos c100, if_pos c126, if_pos c131, if_neg c148], by unfold fX6_readsParts0; rw [← hres]; simp only [wX6_readsParts0, if_neg (Nat.not_lt.mpr c56), if_neg c61, if_pos c100, if_pos c126, if_pos c131, if_neg c148]⟩
            · refine ro_iload F dX6_readsParts_103 4 rfl ?_
              refine ro_iload F dX6_readsParts_105 5 rfl ?_
              refine ro_iaddN F dX6_readsParts_107 ?_
              exact hret _ _ _ _ _ _ (Nat.le_refl _) (Nat.le_refl _) dX6_readsParts_108 rfl ⟨by unfold rX6_readsParts0; rw [← hres]; simp only [wX6_readsParts0, if_neg (Nat.not_lt.mpr c56), if_neg c61, if_neg (Nat.not_le.mpr c100)], by unfold fX6_readsParts0; rw [← hres]; simp only [wX6_readsParts0, if_neg (Nat.not_lt.mpr c56), if_neg c61, if_neg (Nat.not_le.mpr c100)]⟩
          refine ro_icmp_neN (tgt := 74) F dX6_readsParts_67 (by decide) (by omega) (by omega) (fun c67 => ?_) (fun c67 => ?_)
          · refine ro_iload_n F dX6_readsParts_74 1 rfl ?_
            refine ro_if_neN (tgt := 88) F dX6_readsParts_75 (by decide) (by omega) (fun c75 => absurd c75 (by decide)) (fun c75 => ?_)
            refine ro_aload_n F dX6_readsParts_78 0 rfl ?_
            refine ro_iload_n F dX6_readsParts_79 3 rfl ?_
            refine ro_iload F dX6_readsParts_80 4 rfl ?_
            refine mo_cV (rest := []) F hA (metX6_readsSaver (gx_l g) X b n at_ tl (by rw [show b 0 = _ from (hf 0 (by decide) (by decide) (by decide) (by decide)).trans (m2_ff _ _ (by decide))]; exact htl) ltl (by omega) (by omega)) cwX6_128 hdX6_readsSaver rfl (Nat.le_of_ble_eq_true rfl) (Nat.le_of_ble_eq_true rfl) (Nat.le_refl _) (Nat.le_refl _) rfl (Nat.le_of_ble_eq_true rfl) dX6_readsParts_82 ?_
            refine ro_goto (tgt := 95) F dX6_readsParts_85 (by decide) ?_
            exact Wd.to J95_67 (by simp only [if_neg c67, if_pos c75]) rfl (congrArg (fun z => ([Value.int z] : List Value)) (congrArg nI (by simp only [if_neg c67, if_pos c75])))
          · refine ro_iconst (v := (nI 0)) F dX6_readsParts_70 (by decide) ?_
            refine ro_goto (tgt := 95) F dX6_readsParts_71 (by decide) ?_
            exact Wd.to J95_67 (by simp only [if_pos c67]) rfl (congrArg (fun z => ([Value.int z] : List Value)) (congrArg nI (by simp only [if_pos c67])))
  refine ro_iload_n F dX6_readsParts_0 1 rfl ?_
  refine ro_if_neN (tgt := 8) F dX6_readsParts_1 (by decide) (by omega) (fun c1 => absurd c1 (by decide)) (fun c1 => ?_)
  refine ro_iconst (v := (nI 3)) F dX6_readsParts_4 (by decide) ?_
  refine ro_goto (tgt := 9) F dX6_readsParts_5 (by decide) ?_
  refine ro_istore_n (lv' := [(0, .ref (mx_ad X 40)), (1, .int (nI 0)), (2, .int (nI 3))]) F dX6_readsParts_9 (Nat.le_of_ble_eq_true rfl) [1, 2, 0] rfl ?_
  refine ro_iconst (v := (nI 0)) F dX6_readsParts_10 (by decide) ?_
  refine ro_istore_n (lv' := [(0, .ref (mx_ad X 40)), (1, .int (nI 0)), (2, .int (nI 3)), (3, .int (nI 0))]) F dX6_readsParts_11 (Nat.le_of_ble_eq_true rfl) [1, 2, 3, 0] rfl ?_
  refine ro_iconst (v := (nI 0)) F dX6_readsParts_12 (by decide) ?_
  refine ro_istore (lv' := [(0, .ref (mx_ad X 40)), (1, .int (nI 0)), (2, .int (nI 3)), (3, .int (nI 0)), (4, .int (nI 0))]) F dX6_readsParts_13 (Nat.le_of_ble_eq_true rfl) [1, 2, 3, 4, 0] rfl ?_
  refine ro_aload_n F dX6_readsParts_15 0 rfl ?_
  refine ro_iload_n F dX6_readsParts_16 1 rfl ?_
  refine ro_if_neN (tgt := 24) F dX6_readsParts_17 (by decide) (by omega) (fun c17 => absurd c17 (by decide)) (fun c17 => ?_)
  refine ro_iconst (v := (nI 0)) F dX6_readsParts_20 (by decide) ?_
  refine ro_goto (tgt := 28) F dX6_readsParts_21 (by decide) ?_
  refine mo_put F hA 2 (Nat.le_of_ble_eq_true rfl) rfl rfl rfl lkX6_122 rfl dX6_readsParts_28 ?_
  refine ro_aload_n F dX6_readsParts_31 0 rfl ?_
  refine ro_iload_n F dX6_readsParts_32 1 rfl ?_
  refine ro_iconst (v := (nI 1)) F dX6_readsParts_33 (by decide) ?_
  refine ro_icmp_neN (tgt := 41) F dX6_readsParts_34 (by decide) (by omega) (by omega) (fun c34 => ?_) (fun c34 => absurd c34 (by decide))
  refine ro_aload_n F dX6_readsParts_41 0 rfl ?_
  refine mo_gi F 6 (Nat.le_of_ble_eq_true rfl) rfl lkX6_125 rfl dX6_readsParts_42 (m2_f _ _ (by decide)) ?_
  refine mo_put F hA 6 (Nat.le_of_ble_eq_true rfl) rfl rfl rfl lkX6_125 rfl dX6_readsParts_45 ?_
  refine Wd.eqw (m2_id (m2_f _ _ (by decide))) ?_
  exact Wd.sub (lv' := [(0, .ref (mx_ad X 40)), (1, .int (nI 0)), (2, .int (nI 3)), (3, .int (nI 0)), (4, .int (nI 0))]) [0, 1, 2, 3, 4] rfl <| L 9 0 0 _ rfl (by decide) rfl (fun f _ _ _ _ => rfl) rfl
noncomputable def wX6_readsParts1 (tl : Nat → Nat) (m : Mem) : Nat → Nat → Nat → Mem → Int32 × Mem
  | 0, _, _, b => (0, b)
  | fuel + 1, n, at_, b => (if at_ < (tl 1) then (if 2 ≤ (if n = 8 then 0 else (rX6_readsPartner at_ tl b)) then (if (at_ + 2) = (tl 1) then ((-1), (m2 (if n = 8 then b else (fX6_readsPartner n at_ tl b)) 6 0 (nI (n + 1)))) else (if (rX6_byteAt 1 (at_ + 2) tl (if n = 8 then b else (fX6_readsPartner n at_ tl b))) = (nI 59) then wX6_readsParts1 tl m fuel (n + 1) (at_ + 2 + 1) (if n = 8 then b else (fX6_readsPartner n at_ tl b)) else ((nI (at_ + 2)), (if n = 8 then b else (fX6_readsPartner n at_ tl b))))) else ((nI (at_ + (if n = 8 then 0 else (rX6_readsPartner at_ tl b)))), (if n = 8 then b else (fX6_readsPartner n at_ tl b)))) else (if at_ = 0 then ((-1), b) else (if 2 ≤ (if n = 8 then 0 else (rX6_readsPartner at_ tl b)) then (if (at_ + 2) = (tl 1) then ((-1), (m2 (if n = 8 then b else (fX6_readsPartner n at_ tl b)) 6 0 (nI (n + 1)))) else (if (rX6_byteAt 1 (at_ + 2) tl (if n = 8 then b else (fX6_readsPartner n at_ tl b))) = (nI 59) then wX6_readsParts1 tl m fuel (n + 1) (at_ + 2 + 1) (if n = 8 then b else (fX6_readsPartner n at_ tl b)) else ((nI (at_ + 2)), (if n = 8 then b else (fX6_readsPartner n at_ tl b))))) else ((nI (at_ + (if n = 8 then 0 else (rX6_readsPartner at_ tl b)))), (if n = 8 then b else (fX6_readsPartner n at_ tl b))))))
theorem fr_wX6_readsParts1 (tl : Nat → Nat) (m : Mem) : ∀ (fuel n at_ : Nat) (b : Mem) (f : Nat) (h6 : f ≠ 6) (h7 : f ≠ 7) (h8 : f ≠ 8) , (wX6_readsParts1 tl m fuel n at_ b).2 f = b f
  | 0, n, at_, b, f, _, _, _ => rfl
  | fuel + 1, n, at_, b, f, h6, h7, h8 => ite_fr2 (ite_fr2 (ite_fr2 ((m2_ff _ _ h6).trans (ite_fr (rfl) ((fr_fX6_readsPartner n at_ tl b f h7 h8).trans (rfl)))) (ite_fr2 ((fr_wX6_readsParts1 tl m fuel (n + 1) (at_ + 2 + 1) (if n = 8 then b else (fX6_readsPartner n at_ tl b)) f h6 h7 h8).trans (ite_fr (rfl) ((fr_fX6_readsPartner n at_ tl b f h7 h8).trans (rfl)))) (ite_fr (rfl) ((fr_fX6_readsPartner n at_ tl b f h7 h8).trans (rfl))))) (ite_fr (rfl) ((fr_fX6_readsPartner n at_ tl b f h7 h8).trans (rfl)))) (ite_fr2 (rfl) (ite_fr2 (ite_fr2 ((m2_ff _ _ h6).trans (ite_fr (rfl) ((fr_fX6_readsPartner n at_ tl b f h7 h8).trans (rfl)))) (ite_fr2 ((fr_wX6_readsParts1 tl m fuel (n + 1) (at_ + 2 + 1) (if n = 8 then b else (fX6_readsPartner n at_ tl b)) f h6 h7 h8).trans (ite_fr (rfl) ((fr_fX6_readsPartner n at_ tl b f h7 h8).trans (rfl)))) (ite_fr (rfl) ((fr_fX6_readsPartner n at_ tl b f h7 h8).trans (rfl))))) (ite_fr (rfl) ((fr_fX6_readsPartner n at_ tl b f h7 h8).trans (rfl)))))
noncomputable def rX6_readsParts1 (tl : Nat → Nat) (m : Mem) : Int32 := (wX6_readsParts1 tl m 9 0 0 (m2 m 6 0 (nI 0))).1
noncomputable def fX6_readsParts1 (tl : Nat → Nat) (m : Mem) : Mem := (wX6_readsParts1 tl m 9 0 0 (m2 m 6 0 (nI 0))).2
theorem fr_fX6_readsParts1 (tl : Nat → Nat) (m : Mem) (f : Nat) (h6 : f ≠ 6) (h7 : f ≠ 7) (h8 : f ≠ 8) : fX6_readsParts1 tl m f = m f := (fr_wX6_readsParts1 tl m 9 0 0 _ f h6 h7 h8).trans ((m2_ff _ _ h6).trans (rfl))
set_option maxHeartbeats 4000000 in
set_option maxRecDepth 100000 in
theorem metX6_readsParts1 (l : Launch) (X : Mx) (m : Mem) (tl : Nat → Nat) (htl : ∀ t, t < 2 → m 0 t = nI (tl t)) (ltl : ∀ t, tl t ≤ 31) : Cn l yX6_readsParts (ws_ yX6_readsParts cX6_readsParts 6 (some .int)) 4 0 0 [.ref (mx_ad X 40), .int (nI 1)] (PicM X) (KM X) (mx_A X) m (fun rv_ w_ => rv_ = some (.int (rX6_readsParts1 tl m)) ∧ w_ = fX6_readsParts1 tl m) := by
  refine cn_i (own := RX6) rfl (Nat.le_of_ble_eq_true rfl) rfl (fun g hgl hA F hret => ?_)
  refine Wd.eql (lv' := [(0, .ref (mx_ad X 40)), (1, .int (nI 1))]) rfl ?_
  have L : ∀ (fuel n at_ : Nat) (b : Mem), n + fuel = 9 → n ≤ 8 → at_ = 3 * n → (∀ f : Nat, f ≠ 6 → f ≠ 7 → f ≠ 8 → b f = (m2 m 6 0 (nI 0)) f) → wX6_readsParts1 tl m fuel n at_ b = wX6_readsParts1 tl m 9 0 0 (m2 m 6 0 (nI 0)) → Wd (PicM X) g 6 b 0 0 48 [(0, .ref (mx_ad X 40)), (1, .int (nI 1)), (2, .int (nI 2)), (3, .int (nI n)), (4, .int (nI at_))] [] := by
    intro fuel
    induction fuel with
    | zero =>
      intro n at_ b h1 h2
      exact absurd h1 (by omega)
    | succ fuel ih =>
      intro n at_ b hn hn8 hat hf hres
      refine ro_iload F dX6_readsParts_48 4 rfl ?_
      refine ro_aload_n F dX6_readsParts_50 0 rfl ?_
      refine mo_gr F 0 (Nat.le_of_ble_eq_true rfl) (by decide) lkX6_7 rfl dX6_readsParts_51 ?_
      refine ro_iload_n F dX6_readsParts_54 1 rfl ?_
      have hz := ltl 1
      refine mo_ldN F 0 2 rfl (by decide) (by decide) rfl (by omega) dX6_readsParts_55 ((congrFun (hf 0 (by decide) (by decide) (by decide)) 1).trans ((m2_f _ _ (by decide)).trans (htl 1 (by omega)))) ?_
      refine ro_icmp_ltN (tgt := 64) F dX6_readsParts_56 (by decide) (by omega) (by omega) (fun c56 => ?_) (fun c56 => ?_)
      · refine ro_iload_n F dX6_readsParts_64 3 rfl ?_
        refine ro_bipush (v := (nI 8)) F dX6_readsParts_65 (by decide) ?_
        have J95_67 : Wd (PicM X) g 6 (if n = 8 then b else (fX6_readsPartner n at_ tl b)) 0 0 95 [(0, .ref (mx_ad X 40)), (1, .int (nI 1)), (2, .int (nI 2)), (3, .int (nI n)), (4, .int (nI at_))] [.int (nI (if n = 8 then 0 else (rX6_readsPartner at_ tl b)))] := by
          refine ro_istore (lv' := [(0, .ref (mx_ad X 40)), (1, .int (nI 1)), (2, .int (nI 2)), (3, .int (nI n)), (4, .int (nI at_)), (5, .int (nI (if n = 8 then 0 else (rX6_readsPartner at_ tl b))))]) F dX6_readsParts_95 (Nat.le_of_ble_eq_true rfl) [1, 2, 3, 4, 5, 0] rfl ?_
          refine ro_iload F dX6_readsParts_97 5 rfl ?_
          refine ro_iload_n F dX6_readsParts_99 2 rfl ?_
          have hg : (if n = 8 then 0 else rX6_readsPartner at_ tl b) ≤ 3 := le_ite (by decide) (le_readsPartner at_ tl b)
          refine ro_icmp_geN (tgt := 109) F dX6_readsParts_100 (by decide) (by omega) (by omega) (fun c100 => ?_) (fun c100 => ?_)
          · refine ro_iincN (z := 1) (lv' := [(0, .ref (mx_ad X 40)), (1, .int (nI 1)), (2, .int (nI 2)), (3, .int (nI (n + 1))), (4, .int (nI at_)), (5, .int (nI (if n = 8 then 0 else (rX6_readsPartner at_ tl b))))]) F dX6_readsParts_109 3 rfl (Nat.le_of_ble_eq_true rfl) [1, 2, 3, 0, 4, 5] rfl ?_
            refine ro_iload F dX6_readsParts_112 4 rfl ?_
            refine ro_iload_n F dX6_readsParts_114 2 rfl ?_
            refine ro_iaddN F dX6_readsParts_115 ?_
            refine ro_istore (lv' := [(0, .ref (mx_ad X 40)), (1, .int (nI 1)), (2, .int (nI 2)), (3, .int (nI (n + 1))), (4, .int (nI (at_ + 2))), (5, .int (nI (if n = 8 then 0 else (rX6_readsPartner at_ tl b))))]) F dX6_readsParts_116 (Nat.le_of_ble_eq_true rfl) [1, 2, 3, 4, 0, 5] rfl ?_
            refine ro_iload F dX6_readsParts_118 4 rfl ?_
            refine ro_aload_n F dX6_readsParts_120 0 rfl ?_
            refine mo_gr F 0 (Nat.le_of_ble_eq_true rfl) (by decide) lkX6_7 rfl dX6_readsParts_121 ?_
            refine ro_iload_n F dX6_readsParts_124 1 rfl ?_
            have hz := ltl 1
            refine mo_ldN F 0 2 rfl (by decide) (by decide) rfl (by omega) dX6_readsParts_125 (ite_rd ((congrFun (hf 0 (by decide) (by decide) (by decide)) 1).trans ((m2_f _ _ (by decide)).trans (htl 1 (by omega)))) ((congrFun (fr_fX6_readsPartner n at_ tl b 0 (by decide) (by decide)) 1).trans ((congrFun (hf 0 (by decide) (by decide) (by decide)) 1).trans ((m2_f _ _ (by decide)).trans (htl 1 (by omega)))))) ?_
            refine ro_icmp_neN (tgt := 164) F dX6_readsParts_126 (by decide) (by omega) (by omega) (fun c126 => ?_) (fun c126 => ?_)
            · refine ro_aload_n F dX6_readsParts_164 0 rfl ?_
              refine ro_iload_n F dX6_readsParts_165 1 rfl ?_
              refine ro_iload F dX6_readsParts_166 4 rfl ?_
              refine mo_cV (rest := []) F hA (metX6_byteAt (gx_l g) X (if n = 8 then b else (fX6_readsPartner n at_ tl b)) 1 (at_ + 2) tl (by rw [show (if n = 8 then b else (fX6_readsPartner n at_ tl b)) 0 = _ from ite_fr ((hf 0 (by decide) (by decide) (by decide)).trans (m2_ff _ _ (by decide))) ((fr_fX6_readsPartner n at_ tl b 0 (by decide) (by decide)).trans ((hf 0 (by decide) (by decide) (by decide)).trans (m2_ff _ _ (by decide))))]; exact htl) ltl (by omega) (by omega)) cwX6_112 hdX6_byteAt rfl (Nat.le_of_ble_eq_true rfl) (Nat.le_of_ble_eq_true rfl) (Nat.le_refl _) (Nat.le_refl _) rfl (Nat.le_of_ble_eq_true rfl) dX6_readsParts_168 ?_
              refine ro_bipush (v := (nI 59)) F dX6_readsParts_171 (by decide) ?_
              refine ro_icmp_eq (tgt := 179) F dX6_readsParts_173 (by decide) (fun c173 => ?_) (fun c173 => ?_)
              · refine ro_iincN (z := 1) (lv' := [(0, .ref (mx_ad X 40)), (1, .int (nI 1)), (2, .int (nI 2)), (3, .int (nI (n + 1))), (4, .int (nI (at_ + 2 + 1))), (5, .int (nI (if n = 8 then 0 else (rX6_readsPartner at_ tl b))))]) F dX6_readsParts_179 4 rfl (Nat.le_of_ble_eq_true rfl) [1, 2, 3, 4, 0, 5] rfl ?_
                refine ro_goto (tgt := 48) F dX6_readsParts_182 (by decide) ?_
                have hq : n ≠ 8 := fun q => by
                  rw [if_pos q] at c100
                  exact absurd c100 (by decide)
                exact Wd.sub (lv' := [(0, .ref (mx_ad X 40)), (1, .int (nI 1)), (2, .int (nI 2)), (3, .int (nI (n + 1))), (4, .int (nI (at_ + 2 + 1)))]) [0, 1, 2, 3, 4] rfl <| ih _ _ _ (by omega) (by omega) (by omega) (fun f h6 h7 h8 => (ite_fr (rfl) ((fr_fX6_readsPartner n at_ tl b f h7 h8).trans (rfl))).trans (hf f h6 h7 h8)) (by rw [← hres]; simp only [wX6_readsParts1, if_pos c56, if_pos c100, if_neg c126, if_pos c173])
              · refine ro_iload F dX6_readsParts_176 4 rfl ?_
                exact hret _ _ _ _ _ _ (Nat.le_refl _) (Nat.le_refl _) dX6_readsParts_178 rfl ⟨by unfold rX6_readsParts1; rw [← hres]; simp only [wX6_readsParts1, if_pos c56, if_pos c100, if_neg c126, if_neg c173], by unfold fX6_readsParts1; rw [← hres]; simp only [wX6_readsParts1, if_pos c56, if_pos c100, if_neg c126, if_neg c173]⟩
            · refine ro_aload_n F dX6_readsParts_129 0 rfl ?_
              refine ro_iload_n F dX6_readsParts_130 1 rfl ?_
              refine ro_if_neN (tgt := 138) F dX6_readsParts_131 (by decide) (by omega) (fun c131 => ?_) (fun c131 => absurd c131 (by decide))
              refine ro_aload_n F dX6_readsParts_138 0 rfl ?_
              refine mo_gi F 2 (Nat.le_of_ble_eq_true rfl) rfl lkX6_122 rfl dX6_readsParts_139 (ite_rd ((congrFun (hf 2 (by decide) (by decide) (by decide)) 0).trans (m2_f _ _ (by decide))) ((congrFun (fr_fX6_readsPartner n at_ tl b 2 (by decide) (by decide)) 0).trans ((congrFun (hf 2 (by decide) (by decide) (by decide)) 0).trans (m2_f _ _ (by decide))))) ?_
              refine mo_put F hA 2 (Nat.le_of_ble_eq_true rfl) rfl rfl rfl lkX6_122 rfl dX6_readsParts_142 ?_
              refine Wd.eqw (m2_id (ite_rd ((congrFun (hf 2 (by decide) (by decide) (by decide)) 0).trans (m2_f _ _ (by decide))) ((congrFun (fr_fX6_readsPartner n at_ tl b 2 (by decide) (by decide)) 0).trans ((congrFun (hf 2 (by decide) (by decide) (by decide)) 0).trans (m2_f _ _ (by decide)))))) ?_
              refine ro_aload_n F dX6_readsParts_145 0 rfl ?_
              refine ro_iload_n F dX6_readsParts_146 1 rfl ?_
              refine ro_iconst (v := (nI 1)) F dX6_readsParts_147 (by decide) ?_
              refine ro_icmp_neN (tgt := 155) F dX6_readsParts_148 (by decide) (by omega) (by omega) (fun c148 => absurd c148 (by decide)) (fun c148 => ?_)
              refine ro_iload_n F dX6_readsParts_151 3 rfl ?_
              refine ro_goto (tgt := 159) F dX6_readsParts_152 (by decide) ?_
              refine mo_put F hA 6 (Nat.le_of_ble_eq_true rfl) rfl rfl rfl lkX6_125 rfl dX6_readsParts_159 ?_
              refine ro_iconst (v := (-1)) F dX6_readsParts_162 (by decide) ?_
              exact hret _ _ _ _ _ _ (Nat.le_refl _) (Nat.le_refl _) dX6_readsParts_163 rfl ⟨by unfold rX6_readsParts1; rw [← hres]; simp only [wX6_readsParts1, if_pos c56, if_pos c100, if_pos c126, if_neg c131, if_pos c148], by unfold fX6_readsParts1; rw [← hres]; simp only [wX6_readsParts1, if_pos c56, if_pos c100, if_pos c126, if_neg c131, if_pos c148]⟩
          · refine ro_iload F dX6_readsParts_103 4 rfl ?_
            refine ro_iload F dX6_readsParts_105 5 rfl ?_
            refine ro_iaddN F dX6_readsParts_107 ?_
            exact hret _ _ _ _ _ _ (Nat.le_refl _) (Nat.le_refl _) dX6_readsParts_108 rfl ⟨by unfold rX6_readsParts1; rw [← hres]; simp only [wX6_readsParts1, if_pos c56, if_neg (Nat.not_le.mpr c100)], by unfold fX6_readsParts1; rw [← hres]; simp only [wX6_readsParts1, if_pos c56, if_neg (Nat.not_le.mpr c100)]⟩
        refine ro_icmp_neN (tgt := 74) F dX6_readsParts_67 (by decide) (by omega) (by omega) (fun c67 => ?_) (fun c67 => ?_)
        · refine ro_iload_n F dX6_readsParts_74 1 rfl ?_
          refine ro_if_neN (tgt := 88) F dX6_readsParts_75 (by decide) (by omega) (fun c75 => ?_) (fun c75 => absurd c75 (by decide))
          refine ro_aload_n F dX6_readsParts_88 0 rfl ?_
          refine ro_iload_n F dX6_readsParts_89 3 rfl ?_
          refine ro_iload F dX6_readsParts_90 4 rfl ?_
          refine mo_cV (rest := []) F hA (metX6_readsPartner (gx_l g) X b n at_ tl (by rw [show b 0 = _ from (hf 0 (by decide) (by decide) (by decide)).trans (m2_ff _ _ (by decide))]; exact htl) ltl (by omega) (by omega)) cwX6_131 hdX6_readsPartner rfl (Nat.le_of_ble_eq_true rfl) (Nat.le_of_ble_eq_true rfl) (Nat.le_refl _) (Nat.le_refl _) rfl (Nat.le_of_ble_eq_true rfl) dX6_readsParts_92 ?_
          exact Wd.to J95_67 (by simp only [if_neg c67, if_neg c75]) rfl (congrArg (fun z => ([Value.int z] : List Value)) (congrArg nI (by simp only [if_neg c67, if_neg c75])))
        · refine ro_iconst (v := (nI 0)) F dX6_readsParts_70 (by decide) ?_
          refine ro_goto (tgt := 95) F dX6_readsParts_71 (by decide) ?_
          exact Wd.to J95_67 (by simp only [if_pos c67]) rfl (congrArg (fun z => ([Value.int z] : List Value)) (congrArg nI (by simp only [if_pos c67])))
      · refine ro_iload F dX6_readsParts_59 4 rfl ?_
        refine ro_if_leN (tgt := 185) F dX6_readsParts_61 (by decide) (by omega) (fun c61 => ?_) (fun c61 => ?_)
        · refine ro_iconst (v := (-1)) F dX6_readsParts_185 (by decide) ?_
          exact hret _ _ _ _ _ _ (Nat.le_refl _) (Nat.le_refl _) dX6_readsParts_186 rfl ⟨by unfold rX6_readsParts1; rw [← hres]; simp only [wX6_readsParts1, if_neg (Nat.not_lt.mpr c56), if_pos c61], by unfold fX6_readsParts1; rw [← hres]; simp only [wX6_readsParts1, if_neg (Nat.not_lt.mpr c56), if_pos c61]⟩
        · refine ro_iload_n F dX6_readsParts_64 3 rfl ?_
          refine ro_bipush (v := (nI 8)) F dX6_readsParts_65 (by decide) ?_
          have J95_67 : Wd (PicM X) g 6 (if n = 8 then b else (fX6_readsPartner n at_ tl b)) 0 0 95 [(0, .ref (mx_ad X 40)), (1, .int (nI 1)), (2, .int (nI 2)), (3, .int (nI n)), (4, .int (nI at_))] [.int (nI (if n = 8 then 0 else (rX6_readsPartner at_ tl b)))] := by
            refine ro_istore (lv' := [(0, .ref (mx_ad X 40)), (1, .int (nI 1)), (2, .int (nI 2)), (3, .int (nI n)), (4, .int (nI at_)), (5, .int (nI (if n = 8 then 0 else (rX6_readsPartner at_ tl b))))]) F dX6_readsParts_95 (Nat.le_of_ble_eq_true rfl) [1, 2, 3, 4, 5, 0] rfl ?_
            refine ro_iload F dX6_readsParts_97 5 rfl ?_
            refine ro_iload_n F dX6_readsParts_99 2 rfl ?_
            have hg : (if n = 8 then 0 else rX6_readsPartner at_ tl b) ≤ 3 := le_ite (by decide) (le_readsPartner at_ tl b)
            refine ro_icmp_geN (tgt := 109) F dX6_readsParts_100 (by decide) (by omega) (by omega) (fun c100 => ?_) (fun c100 => ?_)
            · refine ro_iincN (z := 1) (lv' := [(0, .ref (mx_ad X 40)), (1, .int (nI 1)), (2, .int (nI 2)), (3, .int (nI (n + 1))), (4, .int (nI at_)), (5, .int (nI (if n = 8 then 0 else (rX6_readsPartner at_ tl b))))]) F dX6_readsParts_109 3 rfl (Nat.le_of_ble_eq_true rfl) [1, 2, 3, 0, 4, 5] rfl ?_
              refine ro_iload F dX6_readsParts_112 4 rfl ?_
              refine ro_iload_n F dX6_readsParts_114 2 rfl ?_
              refine ro_iaddN F dX6_readsParts_115 ?_
              refine ro_istore (lv' := [(0, .ref (mx_ad X 40)), (1, .int (nI 1)), (2, .int (nI 2)), (3, .int (nI (n + 1))), (4, .int (nI (at_ + 2))), (5, .int (nI (if n = 8 then 0 else (rX6_readsPartner at_ tl b))))]) F dX6_readsParts_116 (Nat.le_of_ble_eq_true rfl) [1, 2, 3, 4, 0, 5] rfl ?_
              refine ro_iload F dX6_readsParts_118 4 rfl ?_
              refine ro_aload_n F dX6_readsParts_120 0 rfl ?_
              refine mo_gr F 0 (Nat.le_of_ble_eq_true rfl) (by decide) lkX6_7 rfl dX6_readsParts_121 ?_
              refine ro_iload_n F dX6_readsParts_124 1 rfl ?_
              have hz := ltl 1
              refine mo_ldN F 0 2 rfl (by decide) (by decide) rfl (by omega) dX6_readsParts_125 (ite_rd ((congrFun (hf 0 (by decide) (by decide) (by decide)) 1).trans ((m2_f _ _ (by decide)).trans (htl 1 (by omega)))) ((congrFun (fr_fX6_readsPartner n at_ tl b 0 (by decide) (by decide)) 1).trans ((congrFun (hf 0 (by decide) (by decide) (by decide)) 1).trans ((m2_f _ _ (by decide)).trans (htl 1 (by omega)))))) ?_
              refine ro_icmp_neN (tgt := 164) F dX6_readsParts_126 (by decide) (by omega) (by omega) (fun c126 => ?_) (fun c126 => ?_)
              · refine ro_aload_n F dX6_readsParts_164 0 rfl ?_
                refine ro_iload_n F dX6_readsParts_165 1 rfl ?_
                refine ro_iload F dX6_readsParts_166 4 rfl ?_
                refine mo_cV (rest := []) F hA (metX6_byteAt (gx_l g) X (if n = 8 then b else (fX6_readsPartner n at_ tl b)) 1 (at_ + 2) tl (by rw [show (if n = 8 then b else (fX6_readsPartner n at_ tl b)) 0 = _ from ite_fr ((hf 0 (by decide) (by decide) (by decide)).trans (m2_ff _ _ (by decide))) ((fr_fX6_readsPartner n at_ tl b 0 (by decide) (by decide)).trans ((hf 0 (by decide) (by decide) (by decide)).trans (m2_ff _ _ (by decide))))]; exact htl) ltl (by omega) (by omega)) cwX6_112 hdX6_byteAt rfl (Nat.le_of_ble_eq_true rfl) (Nat.le_of_ble_eq_true rfl) (Nat.le_refl _) (Nat.le_refl _) rfl (Nat.le_of_ble_eq_true rfl) dX6_readsParts_168 ?_
                refine ro_bipush (v := (nI 59)) F dX6_readsParts_171 (by decide) ?_
                refine ro_icmp_eq (tgt := 179) F dX6_readsParts_173 (by decide) (fun c173 => ?_) (fun c173 => ?_)
                · refine ro_iincN (z := 1) (lv' := [(0, .ref (mx_ad X 40)), (1, .int (nI 1)), (2, .int (nI 2)), (3, .int (nI (n + 1))), (4, .int (nI (at_ + 2 + 1))), (5, .int (nI (if n = 8 then 0 else (rX6_readsPartner at_ tl b))))]) F dX6_readsParts_179 4 rfl (Nat.le_of_ble_eq_true rfl) [1, 2, 3, 4, 0, 5] rfl ?_
                  refine ro_goto (tgt := 48) F dX6_readsParts_182 (by decide) ?_
                  have hq : n ≠ 8 := fun q => by
                    rw [if_pos q] at c100
                    exact absurd c100 (by decide)
                  exact Wd.sub (lv' := [(0, .ref (mx_ad X 40)), (1, .int (nI 1)), (2, .int (nI 2)), (3, .int (nI (n + 1))), (4, .int (nI (at_ + 2 + 1)))]) [0, 1, 2, 3, 4] rfl <| ih _ _ _ (by omega) (by omega) (by omega) (fun f h6 h7 h8 => (ite_fr (rfl) ((fr_fX6_readsPartner n at_ tl b f h7 h8).trans (rfl))).trans (hf f h6 h7 h8)) (by rw [← hres]; simp only [wX6_readsParts1, if_neg (Nat.not_lt.mpr c56), if_neg c61, if_pos c100, if_neg c126, if_pos c173])
                · refine ro_iload F dX6_readsParts_176 4 rfl ?_
                  exact hret _ _ _ _ _ _ (Nat.le_refl _) (Nat.le_refl _) dX6_readsParts_178 rfl ⟨by unfold rX6_readsParts1; rw [← hres]; simp only [wX6_readsParts1, if_neg (Nat.not_lt.mpr c56), if_neg c61, if_pos c100, if_neg c126, if_neg c173], by unfold fX6_readsParts1; rw [← hres]; simp only [wX6_readsParts1, if_neg (Nat.not_lt.mpr c56), if_neg c61, if_pos c100, if_neg c126, if_neg c173]⟩
              · refine ro_aload_n F dX6_readsParts_129 0 rfl ?_
                refine ro_iload_n F dX6_readsParts_130 1 rfl ?_
                refine ro_if_neN (tgt := 138) F dX6_readsParts_131 (by decide) (by omega) (fun c131 => ?_) (fun c131 => absurd c131 (by decide))
                refine ro_aload_n F dX6_readsParts_138 0 rfl ?_
                refine mo_gi F 2 (Nat.le_of_ble_eq_true rfl) rfl lkX6_122 rfl dX6_readsParts_139 (ite_rd ((congrFun (hf 2 (by decide) (by decide) (by decide)) 0).trans (m2_f _ _ (by decide))) ((congrFun (fr_fX6_readsPartner n at_ tl b 2 (by decide) (by decide)) 0).trans ((congrFun (hf 2 (by decide) (by decide) (by decide)) 0).trans (m2_f _ _ (by decide))))) ?_
                refine mo_put F hA 2 (Nat.le_of_ble_eq_true rfl) rfl rfl rfl lkX6_122 rfl dX6_readsParts_142 ?_
                refine Wd.eqw (m2_id (ite_rd ((congrFun (hf 2 (by decide) (by decide) (by decide)) 0).trans (m2_f _ _ (by decide))) ((congrFun (fr_fX6_readsPartner n at_ tl b 2 (by decide) (by decide)) 0).trans ((congrFun (hf 2 (by decide) (by decide) (by decide)) 0).trans (m2_f _ _ (by decide)))))) ?_
                refine ro_aload_n F dX6_readsParts_145 0 rfl ?_
                refine ro_iload_n F dX6_readsParts_146 1 rfl ?_
                refine ro_iconst (v := (nI 1)) F dX6_readsParts_147 (by decide) ?_
                refine ro_icmp_neN (tgt := 155) F dX6_readsParts_148 (by decide) (by omega) (by omega) (fun c148 => absurd c148 (by decide)) (fun c148 => ?_)
                refine ro_iload_n F dX6_readsParts_151 3 rfl ?_
                refine ro_goto (tgt := 159) F dX6_readsParts_152 (by decide) ?_
                refine mo_put F hA 6 (Nat.le_of_ble_eq_true rfl) rfl rfl rfl lkX6_125 rfl dX6_readsParts_159 ?_
                refine ro_iconst (v := (-1)) F dX6_readsParts_162 (by decide) ?_
                exact hret _ _ _ _ _ _ (Nat.le_refl _) (Nat.le_refl _) dX6_readsParts_163 rfl ⟨by unfold rX6_readsParts1; rw [← hres]; simp only [wX6_readsParts1, if_neg (Nat.not_lt.mpr c56), if_neg c61, if_pos c100, if_pos c126, if_neg c131, if_pos c148], by unfold fX6_readsParts1; rw [← hres]; simp only [wX6_readsParts1, if_neg (Nat.not_lt.mpr c56), if_neg c61, if_pos c100, if_pos c126, if_neg c131, if_pos c148]⟩
            · refine ro_iload F dX6_readsParts_103 4 rfl ?_
              refine ro_iload F dX6_readsParts_105 5 rfl ?_
              refine ro_iaddN F dX6_readsParts_107 ?_
              exact hret _ _ _ _ _ _ (Nat.le_refl _) (Nat.le_refl _) dX6_readsParts_108 rfl ⟨by unfold rX6_readsParts1; rw [← hres]; simp only [wX6_readsParts1, if_neg (Nat.not_lt.mpr c56), if_neg c61, if_neg (Nat.not_le.mpr c100)], by unfold fX6_readsParts1; rw [← hres]; simp only [wX6_readsParts1, if_neg (Nat.not_lt.mpr c56), if_neg c61, if_neg (Nat.not_le.mpr c100)]⟩
          refine ro_icmp_neN (tgt := 74) F dX6_readsParts_67 (by decide) (by omega) (by omega) (fun c67 => ?_) (fun c67 => ?_)
          · refine ro_iload_n F dX6_readsParts_74 1 rfl ?_
            refine ro_if_neN (tgt := 88) F dX6_readsParts_75 (by decide) (by omega) (fun c75 => ?_) (fun c75 => absurd c75 (by decide))
            refine ro_aload_n F dX6_readsParts_88 0 rfl ?_
            refine ro_iload_n F dX6_readsParts_89 3 rfl ?_
            refine ro_iload F dX6_readsParts_90 4 rfl ?_
            refine mo_cV (rest := []) F hA (metX6_readsPartner (gx_l g) X b n at_ tl (by rw [show b 0 = _ from (hf 0 (by decide) (by decide) (by decide)).trans (m2_ff _ _ (by decide))]; exact htl) ltl (by omega) (by omega)) cwX6_131 hdX6_readsPartner rfl (Nat.le_of_ble_eq_true rfl) (Nat.le_of_ble_eq_true rfl) (Nat.le_refl _) (Nat.le_refl _) rfl (Nat.le_of_ble_eq_true rfl) dX6_readsParts_92 ?_
            exact Wd.to J95_67 (by simp only [if_neg c67, if_neg c75]) rfl (congrArg (fun z => ([Value.int z] : List Value)) (congrArg nI (by simp only [if_neg c67, if_neg c75])))
          · refine ro_iconst (v := (nI 0)) F dX6_readsParts_70 (by decide) ?_
            refine ro_goto (tgt := 95) F dX6_readsParts_71 (by decide) ?_
            exact Wd.to J95_67 (by simp only [if_pos c67]) rfl (congrArg (fun z => ([Value.int z] : List Value)) (congrArg nI (by simp only [if_pos c67])))
  refine ro_iload_n F dX6_readsParts_0 1 rfl ?_
  refine ro_if_neN (tgt := 8) F dX6_readsParts_1 (by decide) (by omega) (fun c1 => ?_) (fun c1 => absurd c1 (by decide))
  refine ro_iconst (v := (nI 2)) F dX6_readsParts_8 (by decide) ?_
  refine ro_istore_n (lv' := [(0, .ref (mx_ad X 40)), (1, .int (nI 1)), (2, .int (nI 2))]) F dX6_readsParts_9 (Nat.le_of_ble_eq_true rfl) [1, 2, 0] rfl ?_
  refine ro_iconst (v := (nI 0)) F dX6_readsParts_10 (by decide) ?_
  refine ro_istore_n (lv' := [(0, .ref (mx_ad X 40)), (1, .int (nI 1)), (2, .int (nI 2)), (3, .int (nI 0))]) F dX6_readsParts_11 (Nat.le_of_ble_eq_true rfl) [1, 2, 3, 0] rfl ?_
  refine ro_iconst (v := (nI 0)) F dX6_readsParts_12 (by decide) ?_
  refine ro_istore (lv' := [(0, .ref (mx_ad X 40)), (1, .int (nI 1)), (2, .int (nI 2)), (3, .int (nI 0)), (4, .int (nI 0))]) F dX6_readsParts_13 (Nat.le_of_ble_eq_true rfl) [1, 2, 3, 4, 0] rfl ?_
  refine ro_aload_n F dX6_readsParts_15 0 rfl ?_
  refine ro_iload_n F dX6_readsParts_16 1 rfl ?_
  refine ro_if_neN (tgt := 24) F dX6_readsParts_17 (by decide) (by omega) (fun c17 => ?_) (fun c17 => absurd c17 (by decide))
  refine ro_aload_n F dX6_readsParts_24 0 rfl ?_
  refine mo_gi F 2 (Nat.le_of_ble_eq_true rfl) rfl lkX6_122 rfl dX6_readsParts_25 rfl ?_
  refine mo_put F hA 2 (Nat.le_of_ble_eq_true rfl) rfl rfl rfl lkX6_122 rfl dX6_readsParts_28 ?_
  refine Wd.eqw (m2_id rfl) ?_
  refine ro_aload_n F dX6_readsParts_31 0 rfl ?_
  refine ro_iload_n F dX6_readsParts_32 1 rfl ?_
  refine ro_iconst (v := (nI 1)) F dX6_readsParts_33 (by decide) ?_
  refine ro_icmp_neN (tgt := 41) F dX6_readsParts_34 (by decide) (by omega) (by omega) (fun c34 => absurd c34 (by decide)) (fun c34 => ?_)
  refine ro_iconst (v := (nI 0)) F dX6_readsParts_37 (by decide) ?_
  refine ro_goto (tgt := 45) F dX6_readsParts_38 (by decide) ?_
  refine mo_put F hA 6 (Nat.le_of_ble_eq_true rfl) rfl rfl rfl lkX6_125 rfl dX6_readsParts_45 ?_
  exact Wd.sub (lv' := [(0, .ref (mx_ad X 40)), (1, .int (nI 1)), (2, .int (nI 2)), (3, .int (nI 0)), (4, .int (nI 0))]) [0, 1, 2, 3, 4] rfl <| L 9 0 0 _ rfl (by decide) rfl (fun f _ _ _ => rfl) rfl
