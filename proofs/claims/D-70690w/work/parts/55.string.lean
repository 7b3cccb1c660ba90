/-! String.indexOf on the four constants -/
/-- the first of m places from j on that holds b; none: -1 -/
def ixo (f : Nat → Int32) (b : Int32) : Nat → Nat → Int32
  | 0, _ => -1
  | m + 1, j => if f j = b then nI j else ixo f b m (j + 1)
def kx_f (i : Nat) : Nat → Int32 := fun j => (kx_byt.getD i []).getD j 0
def kx_n1 (i : Nat) : Nat := kx_len.getD i 0
theorem kx_n1_le {i : Nat} (h : i < 4) : 1 ≤ kx_n1 i ∧ kx_n1 i ≤ 10 := by
  rcases (by omega : i = 0 ∨ i = 1 ∨ i = 2 ∨ i = 3) with e | e | e | e <;> subst e <;> decide
section KS
variable {α : Type} {Pic : α → Heap → Prop} {g : Gx} {cc : ByteArray} {nL : Nat} {own : String} {d mc ms : Nat} {x : Hx} {w : α} {k n pc : Nat} {lv : Lv} {rest : List Value}
theorem ks_get (F : Fx g cc nL own d mc ms (KC x)) (hA : gx_A g = hx_A x) {o nm ds : String} {index q : Nat} {v : Value} (hE : va_OF o nm ds v q (hx_A x) (gx_s g) (gx_s g).heap) (hlk : Cond.fieldLink own index o nm ds ∈ lw_all) (hd : decode cc pc = .ok (.getfield index, 3))
    (kk : Wd Pic g nL w k n (pc + 3) lv (v :: rest)) : Wd Pic g nL w k n pc lv (.ref q :: rest) := fun H locs ls hP hS hl => vk_getf F.x F.b (by rw [hA]; exact hE) hS F.own (F.ts _ hlk) (fun _ h => h) hd (kk H locs ls hP hS hl)
theorem ks_gets (F : Fx g cc nL own d mc ms (KC x)) (hA : gx_A g = hx_A x) {C nm ds : String} {index : Nat} {v : Value} (hZ : va_Z C nm ds v (hx_A x) (gx_s g) (gx_s g).heap) (hlk : Cond.fieldLink own index C nm ds ∈ lw_all) (hd : decode cc pc = .ok (.getstatic index, 3))
    (kk : Wd Pic g nL w k n (pc + 3) lv (v :: rest)) : Wd Pic g nL w k n pc lv rest := fun H locs ls hP hS hl => va_gets F.x F.b (by rw [hA]; exact hZ) hS F.own (F.ts _ hlk) (fun _ h => h) hd (kk H locs ls hP hS hl)
theorem ks_len (F : Fx g cc nL own d mc ms (KC x)) (hA : gx_A g = hx_A x) {t N : Nat} {f : Nat → Value} (hX : va_T .byte t N f (hx_A x) (gx_s g) (gx_s g).heap) (hd : decode cc pc = .ok (.arraylength, 1))
    (kk : Wd Pic g nL w k n (pc + 1) lv (.int (nI N) :: rest)) : Wd Pic g nL w k n pc lv (.ref t :: rest) := fun H locs ls hP hS hl => by
  obtain ⟨scr, h1, h2, h3, h4, h5, h6, h7⟩ := hX
  have hc : H[t]? = some scr := by rw [hS.2.1 t (Array.getElem?_eq_some_iff.mp h1).1 (by rw [hA]; exact h7)]; exact h1
  exact W.alen (n := nI N) F.x F.b hc h2 h5 rfl rfl hd (kk H locs ls hP hS hl)
theorem ks_ld (F : Fx g cc nL own d mc ms (KC x)) (hA : gx_A g = hx_A x) {t N j : Nat} {f : Nat → Int32} (hX : va_T .byte t N (fun j => .int (f j)) (hx_A x) (gx_s g) (gx_s g).heap) (hj : j < N) (hN : N < 2 ^ 31) (hd : decode cc pc = .ok (.baload, 1))
    (kk : Wd Pic g nL w k n (pc + 1) lv (.int (f j) :: rest)) : Wd Pic g nL w k n pc lv (.int (nI j) :: .ref t :: rest) := fun H locs ls hP hS hl => by
  obtain ⟨scr, h1, h2, h3, h4, h5, h6, h7⟩ := hX
  have hc : H[t]? = some scr := by rw [hS.2.1 t (Array.getElem?_eq_some_iff.mp h1).1 (by rw [hA]; exact h7)]; exact h1
  refine W.bald (v := .int (f j)) F.x F.b hc h2 h3 (fun z => ?_) (by rw [nI_clamp (by omega)]; exact h6 j hj) rfl rfl hd (kk H locs ls hP hS hl)
  rcases z with z | z
  · exact nI_pos (by omega) z
  · rw [nI_clamp (by omega)] at z
    omega
theorem ks_ldc (F : Fx g cc nL own d mc ms (KC x)) {tx : String} {index q : Nat} (hZ : vk_R own index tx q (gx_s g)) (hd : decode cc pc = .ok (.ldc index, 2))
    (kk : Wd Pic g nL w k n (pc + 2) lv (.ref q :: rest)) : Wd Pic g nL w k n pc lv rest := fun H locs ls hP hS hl => va_ldcS F.x F.b F.own hZ hd (kk H locs ls hP hS hl)
theorem ks_recv {i : Nat} (F : Fx g cc nL own d mc ms (KC x)) (hA : gx_A g = hx_A x) (hi : i < 4) : ∀ (H : Heap) (locs : List Loc), Pic w H → va_S (gx_A g) (gx_s g).heap H locs → ∃ cell : Cell, H[hx_sa x (64000 + i)]? = some cell ∧ cell.vm.isStatics = false ∧ (gx_s g).vm.findClass RJ5 = some cell.cls := fun H locs _ hS => by
  rw [hA] at hS
  exact vk_recv (i := i) F.k.2.2.2.2.1.2.2.2.2 hi hS
end KS
section KT
variable {α : Type} (Pic : α → Heap → Prop) (w : α) (l : Launch) (x : Hx)
theorem metJ5_isLatin1 (i : Nat) (hi : i < 4) : Cn l yJ5_isLatin1 (ws_ yJ5_isLatin1 cJ5_isLatin1 1 (some .boolean)) 1 0 0 [.ref (hx_sa x (64000 + i))] Pic (KC x) (hx_A x) w (fun rv_ w_ => rv_ = some (.int (nI 1)) ∧ w_ = w) := by
  refine cnF_i (own := RJ5) (by decide +kernel) (Nat.le_of_ble_eq_true rfl) rfl (fun g hgl hA F hret => ?_)
  refine Wd.eql (lv' := [(0, .ref (hx_sa x (64000 + i)))]) rfl ?_
  have S := (F.k.2.2.2.2.1.2.2.2.2.1 i hi)
  refine ks_gets F hA F.k.2.2.2.2.2.1.1 qJ5_38 dJ5_isLatin1_0 ?_
  refine ro_if_eq (tgt := 17) F dJ5_isLatin1_3 (by decide) (fun c => absurd c (by decide)) (fun _ => ?_)
  refine ro_aload_n F dJ5_isLatin1_6 0 rfl ?_
  refine ks_get F hA S.2.1 qJ5_15 dJ5_isLatin1_7 ?_
  refine ro_if_ne (tgt := 17) F dJ5_isLatin1_10 (by decide) (fun c => absurd rfl c) (fun _ => ?_)
  refine ro_iconst (v := nI 1) F dJ5_isLatin1_13 (by decide) ?_
  refine ro_goto (tgt := 18) F dJ5_isLatin1_14 (by decide) ?_
  exact hret _ _ _ _ _ _ (Nat.le_refl _) (Nat.le_refl _) dJ5_isLatin1_18 rfl ⟨rfl, rfl⟩
theorem metJ5_coder (i : Nat) (hi : i < 4) : Cn l yJ5_coder (ws_ yJ5_coder cJ5_coder 1 (some .byte)) 1 0 0 [.ref (hx_sa x (64000 + i))] Pic (KC x) (hx_A x) w (fun rv_ w_ => rv_ = some (.int 0) ∧ w_ = w) := by
  refine cnF_i (own := RJ5) (by decide +kernel) (Nat.le_of_ble_eq_true rfl) rfl (fun g hgl hA F hret => ?_)
  refine Wd.eql (lv' := [(0, .ref (hx_sa x (64000 + i)))]) rfl ?_
  have S := (F.k.2.2.2.2.1.2.2.2.2.1 i hi)
  refine ks_gets F hA F.k.2.2.2.2.2.1.1 qJ5_38 dJ5_coder_0 ?_
  refine ro_if_eq (tgt := 13) F dJ5_coder_3 (by decide) (fun c => absurd c (by decide)) (fun _ => ?_)
  refine ro_aload_n F dJ5_coder_6 0 rfl ?_
  refine ks_get F hA S.2.1 qJ5_15 dJ5_coder_7 ?_
  refine ro_goto (tgt := 14) F dJ5_coder_10 (by decide) ?_
  exact hret _ _ _ _ _ _ (Nat.le_refl _) (Nat.le_refl _) dJ5_coder_14 rfl ⟨rfl, rfl⟩
theorem metJ5_length (i : Nat) (hi : i < 4) : Cn l yJ5_length (ws_ yJ5_length cJ5_length 1 (some .int)) 2 0 0 [.ref (hx_sa x (64000 + i))] Pic (KC x) (hx_A x) w (fun rv_ w_ => rv_ = some (.int (nI (kx_n1 i))) ∧ w_ = w) := by
  have hz := kx_n1_le hi
  refine cnF_i (own := RJ5) (by decide +kernel) (Nat.le_of_ble_eq_true rfl) rfl (fun g hgl hA F hret => ?_)
  refine Wd.eql (lv' := [(0, .ref (hx_sa x (64000 + i)))]) rfl ?_
  have S := (F.k.2.2.2.2.1.2.2.2.2.1 i hi)
  refine ro_aload_n F dJ5_length_0 0 rfl ?_
  refine ks_get F hA S.2.2.1 qJ5_9 dJ5_length_1 ?_
  refine ks_len F hA S.2.2.2 dJ5_length_4 ?_
  refine ro_aload_n F dJ5_length_5 0 rfl ?_
  refine Wd.eqs (st' := ([] : List Value).reverse ++ .ref (hx_sa x (64000 + i)) :: [.int (nI (kx_n1 i))]) rfl ?_
  refine ca_R (by rw [hA]; exact KC_st x) F (fun q hq => by rw [hA]; exact hq) (metJ5_coder Pic w (gx_l g) x i hi) q479 q93 (iv_own F cwJ5_335 (by decide +kernel) (ks_recv F hA hi) rfl rfl dJ5_length_6) (by decide) (by decide) (Nat.le_refl _) (Nat.le_refl _) (Nat.le_of_ble_eq_true rfl) (fun v w' hp => ?_)
  rw [hp.1, hp.2]
  refine ro_ishr F dJ5_length_9 ?_
  refine ro_eqi (y := nI (kx_n1 i)) (sc_shr0 (by omega)) ?_
  exact hret _ _ _ _ _ _ (Nat.le_refl _) (Nat.le_refl _) dJ5_length_10 rfl ⟨rfl, rfl⟩
theorem metJ6_canEncode (c : Nat) (hc : c < 256) : Cn l yJ6_canEncode (ws_ yJ6_canEncode cJ6_canEncode 1 (some .boolean)) 1 0 0 [.int (nI c)] Pic (KC x) (hx_A x) w (fun rv_ w_ => rv_ = some (.int (nI 1)) ∧ w_ = w) := by
  refine cnF_i (own := RJ6) (by decide +kernel) (Nat.le_of_ble_eq_true rfl) rfl (fun g hgl hA F hret => ?_)
  refine Wd.eql (lv' := [(0, .int (nI c))]) rfl ?_
  refine ro_iload_n F dJ6_canEncode_0 0 rfl ?_
  refine ro_if_lt (tgt := 15) F dJ6_canEncode_1 (by decide) (fun z => absurd z (nI_pos (by omega))) (fun _ => ?_)
  refine ro_iload_n F dJ6_canEncode_4 0 rfl ?_
  refine ro_sipush (v := nI 255) F dJ6_canEncode_5 (by decide) ?_
  refine ro_icmp_gt (tgt := 15) F dJ6_canEncode_8 (by decide) (fun z => absurd z (nI_nlt (by omega) (by decide))) (fun _ => ?_)
  refine ro_iconst (v := nI 1) F dJ6_canEncode_11 (by decide) ?_
  refine ro_goto (tgt := 16) F dJ6_canEncode_12 (by decide) ?_
  exact hret _ _ _ _ _ _ (Nat.le_refl _) (Nat.le_refl _) dJ6_canEncode_16 rfl ⟨rfl, rfl⟩
theorem metJ6_indexOfChar (i : Nat) (hi : i < 4) (c : Nat) : Cn l yJ6_indexOfChar (ws_ yJ6_indexOfChar cJ6_indexOfChar 6 (some .int)) 1 0 0 [.ref (hx_sa x (65000 + i)), .int (nI c), .int (nI 0), .int (nI (kx_n1 i))] Pic (KC x) (hx_A x) w (fun rv_ w_ => rv_ = some (.int (ixo (kx_f i) (nI c).toInt8.toInt32 (kx_n1 i) 0)) ∧ w_ = w) := by
  have hz := kx_n1_le hi
  refine cnF_i (own := RJ6) (by decide +kernel) (Nat.le_of_ble_eq_true rfl) rfl (fun g hgl hA F hret => ?_)
  refine Wd.eql (lv' := [(0, .ref (hx_sa x (65000 + i))), (1, .int (nI c)), (2, .int (nI 0)), (3, .int (nI (kx_n1 i)))]) rfl ?_
  have S := (F.k.2.2.2.2.1.2.2.2.2.1 i hi)
  refine ro_iload_n F dJ6_indexOfChar_0 1 rfl ?_
  refine ro_i2b F dJ6_indexOfChar_1 ?_
  generalize hb : (nI c).toInt8.toInt32 = b
  refine ro_istore (lv' := [(0, .ref (hx_sa x (65000 + i))), (2, .int (nI 0)), (3, .int (nI (kx_n1 i))), (4, .int b)]) F dJ6_indexOfChar_2 (Nat.le_of_ble_eq_true rfl) [1, 3, 4, 0] rfl ?_
  refine ro_iload_n F dJ6_indexOfChar_4 1 rfl ?_
  refine ro_istore (lv' := [(0, .ref (hx_sa x (65000 + i))), (3, .int (nI (kx_n1 i))), (4, .int b), (5, .int (nI 0))]) F dJ6_indexOfChar_5 (Nat.le_of_ble_eq_true rfl) [1, 3, 4, 0] rfl ?_
  have go : ∀ m j, j + m = kx_n1 i → ixo (kx_f i) b (kx_n1 i) 0 = ixo (kx_f i) b m j → Wd Pic g 6 w 0 0 7 [(0, .ref (hx_sa x (65000 + i))), (3, .int (nI (kx_n1 i))), (4, .int b), (5, .int (nI j))] [] := by
    intro m
    induction m with
    | zero =>
      intro j hj hv
      refine ro_iload F dJ6_indexOfChar_7 3 rfl ?_
      refine ro_iload_n F dJ6_indexOfChar_9 1 rfl ?_
      refine ro_icmp_geN (tgt := 31) F dJ6_indexOfChar_10 (by decide) (by omega) (by omega) (fun _ => ?_) (fun z => absurd z (by omega))
      refine ro_iconst (v := -1) F dJ6_indexOfChar_31 (by decide) ?_
      exact hret _ _ _ _ _ _ (Nat.le_refl _) (Nat.le_refl _) dJ6_indexOfChar_32 rfl ⟨by rw [hb, hv]; rfl, rfl⟩
    | succ m ih =>
      intro j hj hv
      refine ro_iload F dJ6_indexOfChar_7 3 rfl ?_
      refine ro_iload_n F dJ6_indexOfChar_9 1 rfl ?_
      refine ro_icmp_geN (tgt := 31) F dJ6_indexOfChar_10 (by decide) (by omega) (by omega) (fun z => absurd z (by omega)) (fun _ => ?_)
      refine ro_aload_n F dJ6_indexOfChar_13 0 rfl ?_
      refine ro_iload F dJ6_indexOfChar_14 3 rfl ?_
      refine ks_ld (f := kx_f i) F hA S.2.2.2 (show j < kx_n1 i by omega) (show kx_n1 i < 2 ^ 31 by omega) dJ6_indexOfChar_16 ?_
      refine ro_iload F dJ6_indexOfChar_17 2 rfl ?_
      refine ro_icmp_ne (tgt := 25) F dJ6_indexOfChar_19 (by decide) (fun z => ?_) (fun z => ?_)
      · refine ro_iincN (z := 1) (lv' := [(0, .ref (hx_sa x (65000 + i))), (3, .int (nI (kx_n1 i))), (4, .int b), (5, .int (nI (j + 1)))]) F dJ6_indexOfChar_25 3 rfl (Nat.le_of_ble_eq_true rfl) [1, 2, 3, 0] rfl ?_
        refine ro_goto (tgt := 7) F dJ6_indexOfChar_28 (by decide) ?_
        exact ih (j + 1) (by omega) (by rw [hv]; exact if_neg z)
      · refine ro_iload F dJ6_indexOfChar_22 3 rfl ?_
        exact hret _ _ _ _ _ _ (Nat.le_refl _) (Nat.le_refl _) dJ6_indexOfChar_24 rfl ⟨by rw [hb, hv]; exact congrArg (fun q => some (Value.int q)) (if_pos z).symm, rfl⟩
  exact go (kx_n1 i) 0 (by omega) rfl
theorem metJ6_indexOf (i : Nat) (hi : i < 4) (c : Nat) (hc : c < 256) : Cn l yJ6_indexOf (ws_ yJ6_indexOf cJ6_indexOf 4 (some .int)) 2 0 0 [.ref (hx_sa x (65000 + i)), .int (nI c), .int (nI 0), .int (nI (kx_n1 i))] Pic (KC x) (hx_A x) w (fun rv_ w_ => rv_ = some (.int (ixo (kx_f i) (nI c).toInt8.toInt32 (kx_n1 i) 0)) ∧ w_ = w) := by
  have hz := kx_n1_le hi
  refine cnF_i (own := RJ6) (by decide +kernel) (Nat.le_of_ble_eq_true rfl) rfl (fun g hgl hA F hret => ?_)
  refine Wd.eql (lv' := [(0, .ref (hx_sa x (65000 + i))), (1, .int (nI c)), (2, .int (nI 0)), (3, .int (nI (kx_n1 i)))]) rfl ?_
  have S := (F.k.2.2.2.2.1.2.2.2.2.1 i hi)
  refine ro_iload_n F dJ6_indexOf_0 1 rfl ?_
  refine Wd.eqs (st' := ([.int (nI c)] : List Value).reverse ++ []) rfl ?_
  refine ca_S (N := 1) (by rw [hA]; exact KC_st x) F (fun q hq => by rw [hA]; exact hq) (metJ6_canEncode Pic w (gx_l g) x c hc) cwJ6_88 (by decide +kernel) rfl (Nat.le_of_ble_eq_true rfl) (Nat.le_of_ble_eq_true rfl) (Nat.le_refl _) (Nat.le_refl _) (Nat.le_of_ble_eq_true rfl) dJ6_indexOf_1 (fun v w' hp => ?_)
  rw [hp.1, hp.2]
  refine ro_if_ne (tgt := 9) F dJ6_indexOf_4 (by decide) (fun _ => ?_) (fun z => absurd z (by decide))
  refine ro_iload_n F dJ6_indexOf_9 2 rfl ?_
  refine ro_iconst (v := nI 0) F dJ6_indexOf_10 (by decide) ?_
  refine Wd.eqs (st' := ([.int (nI 0), .int (nI 0)] : List Value).reverse ++ []) rfl ?_
  refine ca_S (N := 2) (by rw [hA]; exact KC_st x) F (fun q hq => by rw [hA]; exact hq) (metJ7_max Pic (KC x) (hx_A x) w (gx_l g) (nI 0) (nI 0)) cwJ6_92 (by decide +kernel) rfl (Nat.le_of_ble_eq_true rfl) (Nat.le_of_ble_eq_true rfl) (Nat.le_refl _) (Nat.le_refl _) (Nat.le_of_ble_eq_true rfl) dJ6_indexOf_11 (fun v w' hp => ?_)
  rw [hp.1, hp.2]
  refine Wd.eqs (st' := [.int (nI 0)]) rfl ?_
  refine ro_istore_n (lv' := [(0, .ref (hx_sa x (65000 + i))), (1, .int (nI c)), (2, .int (nI 0)), (3, .int (nI (kx_n1 i)))]) F dJ6_indexOf_14 (Nat.le_of_ble_eq_true rfl) [1, 2, 0, 3] rfl ?_
  refine ro_iload_n F dJ6_indexOf_15 3 rfl ?_
  refine ro_aload_n F dJ6_indexOf_16 0 rfl ?_
  refine ks_len F hA S.2.2.2 dJ6_indexOf_17 ?_
  refine Wd.eqs (st' := ([.int (nI (kx_n1 i)), .int (nI (kx_n1 i))] : List Value).reverse ++ []) rfl ?_
  refine ca_S (N := 2) (by rw [hA]; exact KC_st x) F (fun q hq => by rw [hA]; exact hq) (metJ7_min Pic (KC x) (hx_A x) w (gx_l g) (nI (kx_n1 i)) (nI (kx_n1 i))) cwJ6_38 (by decide +kernel) rfl (Nat.le_of_ble_eq_true rfl) (Nat.le_of_ble_eq_true rfl) (Nat.le_refl _) (Nat.le_refl _) (Nat.le_of_ble_eq_true rfl) dJ6_indexOf_18 (fun v w' hp => ?_)
  rw [hp.1, hp.2]
  refine Wd.eqs (st' := [.int (nI (kx_n1 i))]) (by unfold mn_; rw [ite_self]; rfl) ?_
  refine ro_istore_n (lv' := [(0, .ref (hx_sa x (65000 + i))), (1, .int (nI c)), (2, .int (nI 0)), (3, .int (nI (kx_n1 i)))]) F dJ6_indexOf_21 (Nat.le_of_ble_eq_true rfl) [1, 2, 3, 0] rfl ?_
  refine ro_iload_n F dJ6_indexOf_22 2 rfl ?_
  refine ro_iload_n F dJ6_indexOf_23 3 rfl ?_
  refine ro_icmp_ltN (tgt := 29) F dJ6_indexOf_24 (by decide) (by omega) (by omega) (fun _ => ?_) (fun z => absurd z (by omega))
  refine ro_aload_n F dJ6_indexOf_29 0 rfl ?_
  refine ro_iload_n F dJ6_indexOf_30 1 rfl ?_
  refine ro_iload_n F dJ6_indexOf_31 2 rfl ?_
  refine ro_iload_n F dJ6_indexOf_32 3 rfl ?_
  refine Wd.eqs (st' := ([.ref (hx_sa x (65000 + i)), .int (nI c), .int (nI 0), .int (nI (kx_n1 i))] : List Value).reverse ++ []) rfl ?_
  refine ca_S (N := 4) (by rw [hA]; exact KC_st x) F (fun q hq => by rw [hA]; exact hq) (metJ6_indexOfChar Pic w (gx_l g) x i hi c) cwJ6_95 (by decide +kernel) rfl (Nat.le_of_ble_eq_true rfl) (Nat.le_of_ble_eq_true rfl) (Nat.le_refl _) (Nat.le_refl _) (Nat.le_of_ble_eq_true rfl) dJ6_indexOf_33 (fun v w' hp => ?_)
  rw [hp.1, hp.2]
  exact hret _ _ _ _ _ _ (Nat.le_refl _) (Nat.le_refl _) dJ6_indexOf_36 rfl ⟨rfl, rfl⟩
theorem metJ5_indexOf_2 (i : Nat) (hi : i < 4) (c : Nat) (hc : c < 256) : Cn l yJ5_indexOf_2 (ws_ yJ5_indexOf_2 cJ5_indexOf_2 3 (some .int)) 3 0 0 [.ref (hx_sa x (64000 + i)), .int (nI c), .int (nI 0)] Pic (KC x) (hx_A x) w (fun rv_ w_ => rv_ = some (.int (ixo (kx_f i) (nI c).toInt8.toInt32 (kx_n1 i) 0)) ∧ w_ = w) := by
  have hz := kx_n1_le hi
  refine cnF_i (own := RJ5) (by decide +kernel) (Nat.le_of_ble_eq_true rfl) rfl (fun g hgl hA F hret => ?_)
  refine Wd.eql (lv' := [(0, .ref (hx_sa x (64000 + i))), (1, .int (nI c)), (2, .int (nI 0))]) rfl ?_
  have S := (F.k.2.2.2.2.1.2.2.2.2.1 i hi)
  refine ro_aload_n F dJ5_indexOf_2_0 0 rfl ?_
  refine ca_R (rest := []) (by rw [hA]; exact KC_st x) F (fun q hq => by rw [hA]; exact hq) (metJ5_isLatin1 Pic w (gx_l g) x i hi) q469 q93 (iv_own (As := []) F cwJ5_492 (by decide +kernel) (ks_recv F hA hi) rfl rfl dJ5_indexOf_2_1) (by decide) (by decide) (Nat.le_refl _) (Nat.le_refl _) (Nat.le_of_ble_eq_true rfl) (fun v w' hp => ?_)
  rw [hp.1, hp.2]
  refine ro_if_eq (tgt := 23) F dJ5_indexOf_2_4 (by decide) (fun z => absurd z (by decide)) (fun _ => ?_)
  refine ro_aload_n F dJ5_indexOf_2_7 0 rfl ?_
  refine ks_get F hA S.2.2.1 qJ5_9 dJ5_indexOf_2_8 ?_
  refine ro_iload_n F dJ5_indexOf_2_11 1 rfl ?_
  refine ro_iload_n F dJ5_indexOf_2_12 2 rfl ?_
  refine ro_aload_n F dJ5_indexOf_2_13 0 rfl ?_
  refine ca_R (rest := [.int (nI 0), .int (nI c), .ref (hx_sa x (65000 + i))]) (by rw [hA]; exact KC_st x) F (fun q hq => by rw [hA]; exact hq) (metJ5_length Pic w (gx_l g) x i hi) q475 q93 (iv_own (As := []) F cwJ5_505 (by decide +kernel) (ks_recv F hA hi) rfl rfl dJ5_indexOf_2_14) (by decide) (by decide) (Nat.le_refl _) (Nat.le_refl _) (Nat.le_of_ble_eq_true rfl) (fun v w' hp => ?_)
  rw [hp.1, hp.2]
  refine Wd.eqs (st' := ([.ref (hx_sa x (65000 + i)), .int (nI c), .int (nI 0), .int (nI (kx_n1 i))] : List Value).reverse ++ []) rfl ?_
  refine ca_S (N := 4) (by rw [hA]; exact KC_st x) F (fun q hq => by rw [hA]; exact hq) (metJ6_indexOf Pic w (gx_l g) x i hi c hc) cwJ5_637 (by decide +kernel) rfl (Nat.le_of_ble_eq_true rfl) (Nat.le_of_ble_eq_true rfl) (Nat.le_refl _) (Nat.le_refl _) (Nat.le_of_ble_eq_true rfl) dJ5_indexOf_2_17 (fun v w' hp => ?_)
  rw [hp.1, hp.2]
  refine ro_goto (tgt := 36) F dJ5_indexOf_2_20 (by decide) ?_
  exact hret _ _ _ _ _ _ (Nat.le_refl _) (Nat.le_refl _) dJ5_indexOf_2_36 rfl ⟨rfl, rfl⟩
theorem metJ5_indexOf (i : Nat) (hi : i < 4) (c : Nat) (hc : c < 256) : Cn l yJ5_indexOf (ws_ yJ5_indexOf cJ5_indexOf 2 (some .int)) 4 0 0 [.ref (hx_sa x (64000 + i)), .int (nI c)] Pic (KC x) (hx_A x) w (fun rv_ w_ => rv_ = some (.int (ixo (kx_f i) (nI c).toInt8.toInt32 (kx_n1 i) 0)) ∧ w_ = w) := by
  refine cnF_i (own := RJ5) (by decide +kernel) (Nat.le_of_ble_eq_true rfl) rfl (fun g hgl hA F hret => ?_)
  refine Wd.eql (lv' := [(0, .ref (hx_sa x (64000 + i))), (1, .int (nI c))]) rfl ?_
  refine ro_aload_n F dJ5_indexOf_0 0 rfl ?_
  refine ro_iload_n F dJ5_indexOf_1 1 rfl ?_
  refine ro_iconst (v := nI 0) F dJ5_indexOf_2 (by decide) ?_
  refine ca_R (rest := []) (by rw [hA]; exact KC_st x) F (fun q hq => by rw [hA]; exact hq) (metJ5_indexOf_2 Pic w (gx_l g) x i hi c hc) q465 q93 (iv_own (N := 2) (As := [.int (nI c), .int (nI 0)]) F cwJ5_633 (by decide +kernel) (ks_recv F hA hi) rfl rfl dJ5_indexOf_3) (by decide) (by decide) (Nat.le_refl _) (Nat.le_refl _) (Nat.le_of_ble_eq_true rfl) (fun v w' hp => ?_)
  rw [hp.1, hp.2]
  exact hret _ _ _ _ _ _ (Nat.le_refl _) (Nat.le_refl _) dJ5_indexOf_6 rfl ⟨rfl, rfl⟩
end KT
/-- which of the constant's bytes the byte c is; none: -1 -/
def kx_ix (i c : Nat) : Int32 := ixo (kx_f i) (nI c).toInt8.toInt32 (kx_n1 i) 0
