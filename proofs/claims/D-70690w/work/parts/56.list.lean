/-! ArrayList over the heap by places: clear, add, remove of the last -/
theorem up1_up1 {β : Type} (f : Nat → β) (p : Nat) (u v : β) : up1 (up1 f p u) p v = up1 f p v := by
  funext q
  by_cases h : q = p
  · rw [h, up1_s, up1_s]
  · rw [up1_n _ _ h, up1_n _ _ h, up1_n _ _ h]
theorem up1_id {β : Type} {f : Nat → β} {p : Nat} {v : β} (h : f p = v) : up1 f p v = f := by
  funext q
  by_cases e : q = p
  · rw [e, up1_s, h]
  · rw [up1_n _ _ e]
section LR
variable {x : Hx} {g : Gx} {cc : ByteArray} {nL : Nat} {own : String} {d mc ms : Nat} {ad : Nat → Nat} {ds : Nat → Option Lay} {cm : Mem} {k n pc : Nat} {lv : Lv} {rest : List Value}
theorem ro_acmp_eq {α : Type} {Pic : α → Heap → Prop} {w : α} {K : State → Prop} (F : Fx g cc nL own d mc ms K) {a b : Nat} {off : Int} {tgt : Nat} (hd : decode cc pc = .ok (.if_acmp .eq off, 3)) (ht : (pc : Int) + off = (tgt : Int)) (kt : a = b → Wd Pic g nL w k n tgt lv rest) (kf : ¬ a = b → Wd Pic g nL w k n (pc + 3) lv rest) : Wd Pic g nL w k n pc lv (.ref b :: .ref a :: rest) := fun H locs ls hP hS hl =>
  lv_acmp_eq (rx := some a) (ry := some b) F.x F.b hd ht (fun z => kt (Option.some.inj z) H locs ls hP hS hl) (fun z => kf (fun e => z (by rw [e])) H locs ls hP hS hl)
theorem hh_gets (F : Fx g cc nL own d mc ms (KC x)) (hA : gx_A g = hx_A x) {q index : Nat} {C nm dd : String} (hZ : va_Z C nm dd (.ref (hx_sa x q)) (hx_A x) (gx_s g) (gx_s g).heap) (hq : 60 ≤ q % 64) (hlk : Cond.fieldLink own index C nm dd ∈ lw_all) (hd : decode cc pc = .ok (.getstatic index, 3))
    (kk : Wd (PicH x) g nL (ad, ds, cm) k n (pc + 3) lv (.ref (ad q) :: rest)) : Wd (PicH x) g nL (ad, ds, cm) k n pc lv rest := fun H locs ls hP hS hl => by
  have e : ad q = hx_sa x q := hP.2.2.2.2.2 q hq
  have kk' := kk H locs ls hP hS hl
  rw [e] at kk'
  exact va_gets F.x F.b (by rw [hA]; exact hZ) hS F.own (F.ts _ hlk) (fun _ h => h) hd kk'
theorem hh_any (F : Fx g cc nL own d mc ms (KC x)) {p ci : Nat} {C : String} {T : u_T} {N : Nat} {fl : List (Option (Option Nat))} (hL : ds p = some (.inl (ci, fl))) (hc : clAll[ci]? = some (C, T, N)) (hcast : (C, "java/lang/Object") ∈ kx_c) : ∀ H, PicH x (ad, ds, cm) H → va_Any "java/lang/Object" (gx_s g) H (ad p) := by
  intro H hP
  obtain ⟨cell, h1, h2, h3⟩ := hh_recv F.k.1 hL (F.k.c hc) H hP
  obtain ⟨kC, hkC, -⟩ := Vm.findClass_spec h3
  refine ⟨cell, h1, h2, ⟨kC, hkC⟩, fun comp hcomp => ?_⟩
  obtain ⟨c, t, e1, e2, e3⟩ := Cond.castable_spec (F.k.2.2.2.2.2.2.1.2.2.1 _ hcast)
  cases h3.symm.trans e1
  cases hcomp.symm.trans e2
  exact e3
theorem hh_anyA (F : Fx g cc nL own d mc ms (KC x)) {p t N : Nat} {C : String} (hL : ds p = some (.inr (t, N, none))) (ht : t < 4) (hC : "[" ++ (hx_T t).toString = C) (hcast : (C, "java/lang/Object") ∈ kx_c) : ∀ H, PicH x (ad, ds, cm) H → va_Any "java/lang/Object" (gx_s g) H (ad p) := by
  intro H hP
  have h1 := hh_arr hP hL
  have h2 := (F.k.1.2.1 t (by omega)).2
  have h3 : (gx_s g).vm.findClass C = some (hx_ty x t) := by
    rw [← hC]
    rcases (by omega : t = 0 ∨ t = 1 ∨ t = 2 ∨ t = 3) with e | e | e | e <;> subst e <;> exact h2
  obtain ⟨kC, hkC, -⟩ := Vm.findClass_spec h3
  refine ⟨_, h1, rfl, ⟨kC, hkC⟩, fun comp hcomp => ?_⟩
  obtain ⟨c, t', e1, e2, e3⟩ := Cond.castable_spec (F.k.2.2.2.2.2.2.1.2.2.1 _ hcast)
  cases h3.symm.trans e1
  cases hcomp.symm.trans e2
  exact e3
end LR
section LM
variable (l : Launch) (x : Hx) (ad : Nat → Nat) (ds : Nat → Option Lay) (cm : Mem)
set_option maxHeartbeats 4000000 in
theorem metJ2_clear (a q N n : Nat) (e : Nat → Nat) (hL : LsD ds a q N n e) (hn : cm a 2 = nI n) (ha : a % 64 < 60) (hq : q % 64 < 60 ∨ n = 0) (haq : q ≠ a) :
    Cn l yJ2_clear (ws_ yJ2_clear cJ2_clear 4 none) 1 0 0 [.ref (ad a)] (PicH x) (KC x) (hx_A x) (ad, ds, cm) (fun rv_ w_ => rv_ = none ∧ w_ = (ad, up1 ds q (some (.inr (4, N, some (fun _ => none)))), m2 (m2 cm a 0 (cm a 0 + 1)) a 2 (nI 0))) := by
  have hn10 : n ≤ 10 := by have h1 := hL.2.2.1; have h2 := hL.2.2.2; omega
  have hN10 := hL.2.2.2
  refine cn_v (own := RJ2) rfl (Nat.le_of_ble_eq_true rfl) rfl (fun g hgl hA F hret => ?_)
  refine Wd.eql (lv' := [(0, .ref (ad a))]) rfl ?_
  refine ro_aload_n F dJ2_clear_0 0 rfl ?_
  refine ro_dup F dJ2_clear_1 rfl ?_
  refine hh_get F F.k.1 in_J2 (F.k.c rfl) a hL.1 0 (by decide) qJ2_63 (u_same (F.ts _ q144)) (Nat.le_of_ble_eq_true rfl) (v := .int (cm a 0)) rfl dJ2_clear_2 ?_
  refine ro_iconst (v := 1) F dJ2_clear_5 (by decide) ?_
  refine ro_iadd F dJ2_clear_6 ?_
  refine hh_put F F.k.1 hA in_J2 tyJ2 tyJ2_ok nmJ2 (F.k.c rfl) a hL.1 ha 0 (by decide) qJ2_63 (u_same (F.ts _ q144)) (Nat.le_of_ble_eq_true rfl) rfl rfl rfl rfl dJ2_clear_7 ?_
  generalize hm1 : m2 cm a 0 (cm a 0 + 1) = m1
  have hn1 : m1 a 2 = nI n := by rw [← hm1, m2_i _ _ (by decide)]; exact hn
  refine ro_aload_n F dJ2_clear_10 0 rfl ?_
  refine hh_get F F.k.1 in_J2 (F.k.c rfl) a hL.1 1 (by decide) qJ2_9 (fun _ h => h) (Nat.le_of_ble_eq_true rfl) (v := .ref (ad q)) rfl dJ2_clear_11 ?_
  refine ro_astore_n (lv' := [(0, .ref (ad a)), (1, .ref (ad q))]) F dJ2_clear_14 (Nat.le_of_ble_eq_true rfl) [1, 0] rfl ?_
  refine ro_aload_n F dJ2_clear_15 0 rfl ?_
  refine hh_get F F.k.1 in_J2 (F.k.c rfl) a hL.1 2 (by decide) qJ2_48 (fun _ h => h) (Nat.le_of_ble_eq_true rfl) (v := .int (nI n)) (congrArg Value.int hn1) dJ2_clear_16 ?_
  refine ro_istore_n (lv' := [(0, .ref (ad a)), (1, .ref (ad q)), (2, .int (nI n))]) F dJ2_clear_19 (Nat.le_of_ble_eq_true rfl) [1, 2, 0] rfl ?_
  refine ro_aload_n F dJ2_clear_20 0 rfl ?_
  refine ro_iconst (v := nI 0) F dJ2_clear_21 (by decide) ?_
  refine ro_dup_x1 F dJ2_clear_22 rfl rfl ?_
  refine hh_put F F.k.1 hA in_J2 tyJ2 tyJ2_ok nmJ2 (F.k.c rfl) a hL.1 ha 2 (by decide) qJ2_48 (fun _ h => h) (Nat.le_of_ble_eq_true rfl) rfl rfl rfl rfl dJ2_clear_23 ?_
  refine ro_istore_n (lv' := [(0, .ref (ad a)), (1, .ref (ad q)), (2, .int (nI n)), (3, .int (nI 0))]) F dJ2_clear_26 (Nat.le_of_ble_eq_true rfl) [1, 2, 3, 0] rfl ?_
  generalize hm2 : m2 m1 a 2 (nI 0) = M
  have go : ∀ r i, i + r = n → Wd (PicH x) g 4 (ad, up1 ds q (some (.inr (4, N, some (fun j => if i ≤ j ∧ j < n then some (e j) else none)))), M) 0 0 27 [(0, .ref (ad a)), (1, .ref (ad q)), (2, .int (nI n)), (3, .int (nI i))] [] := by
    intro r
    induction r with
    | zero =>
      intro i hi
      refine ro_iload_n F dJ2_clear_27 3 rfl ?_
      refine ro_iload_n F dJ2_clear_28 2 rfl ?_
      refine ro_icmp_geN (tgt := 42) F dJ2_clear_29 (by decide) (by omega) (by omega) (fun _ => ?_) (fun z => absurd z (by omega))
      have ef : (fun j => if i ≤ j ∧ j < n then some (e j) else none) = (fun _ => none : Nat → Option Nat) := by funext j; exact if_neg (by omega)
      rw [ef]
      exact hret _ _ _ _ _ (Nat.le_refl _) (Nat.le_refl _) dJ2_clear_42 ⟨rfl, by rw [← hm2, ← hm1]⟩
    | succ r ih =>
      intro i hi
      refine ro_iload_n F dJ2_clear_27 3 rfl ?_
      refine ro_iload_n F dJ2_clear_28 2 rfl ?_
      refine ro_icmp_geN (tgt := 42) F dJ2_clear_29 (by decide) (by omega) (by omega) (fun z => absurd z (by omega)) (fun _ => ?_)
      refine ro_aload_n F dJ2_clear_32 1 rfl ?_
      refine ro_iload_n F dJ2_clear_33 3 rfl ?_
      refine ro_null F dJ2_clear_34 ?_
      refine hh_stN F F.k.1 hA q 4 N (up1_s _ _ _) (by omega) (by decide) rfl (by omega) (j := i) (by have h1 := hL.2.2.1; omega) dJ2_clear_35 ?_
      rw [up1_up1]
      have ef : up1 (fun j => if i ≤ j ∧ j < n then some (e j) else none) i none = (fun j => if i + 1 ≤ j ∧ j < n then some (e j) else none) := by
        funext j
        by_cases ej : j = i
        · rw [ej, up1_s, if_neg (by omega)]
        · rw [up1_n _ _ ej]
          by_cases c : i ≤ j ∧ j < n
          · rw [if_pos c, if_pos (by omega)]
          · rw [if_neg c, if_neg (by omega)]
      rw [ef]
      refine ro_iincN (z := 1) (lv' := [(0, .ref (ad a)), (1, .ref (ad q)), (2, .int (nI n)), (3, .int (nI (i + 1)))]) F dJ2_clear_36 3 rfl (Nat.le_of_ble_eq_true rfl) [1, 2, 3, 0] rfl ?_
      refine ro_goto (tgt := 27) F dJ2_clear_39 (by decide) ?_
      exact ih (i + 1) (by omega)
  have g0 := go n 0 (by omega)
  rw [up1_id (by rw [hL.2.1]; congr 5; funext j; simp)] at g0
  exact g0
set_option maxHeartbeats 4000000 in
theorem metJ2_grow_2 (a q' : Nat) (e : Nat → Nat) (hds : FixD ds) (hL : LsD ds a 63 0 0 e) (ha : a % 64 < 60) (hq : q' % 64 < 60) (hqn : ds q' = none) :
    Cn l yJ2_grow_2 (ws_ yJ2_grow_2 cJ2_grow_2 4 (some (.array (.object "java/lang/Object")))) 2 1 10 [.ref (ad a), .int (nI 1)] (PicH x) (KC x) (hx_A x) (ad, ds, cm) (fun rv_ w_ => ∃ h, rv_ = some (.ref (up1 ad q' h q')) ∧ w_ = (up1 ad q' h, up1 (up1 ds q' (some (.inr (4, 10, some (fun _ => none))))) a (some (.inl (3, [none, some (some q'), none]))), cm)) := by
  have hne : a ≠ q' := fun z => by rw [← z, hL.1] at hqn; cases hqn
  refine cn_a (own := RJ2) (Or.inr ⟨_, rfl⟩) rfl (Nat.le_of_ble_eq_true rfl) rfl (fun g hgl hA F hret => ?_)
  refine Wd.eql (lv' := [(0, .ref (ad a)), (1, .int (nI 1))]) rfl ?_
  refine ro_aload_n F dJ2_grow_2_0 0 rfl ?_
  refine hh_get F F.k.1 in_J2 (F.k.c rfl) a hL.1 1 (by decide) qJ2_9 (fun _ h => h) (Nat.le_of_ble_eq_true rfl) (v := .ref (ad 63)) rfl dJ2_grow_2_1 ?_
  refine hh_alen F F.k.1 63 4 0 (by decide) (hds 63 _ rfl) dJ2_grow_2_4 ?_
  refine ro_istore_n (lv' := [(0, .ref (ad a)), (1, .int (nI 1)), (2, .int (nI 0))]) F dJ2_grow_2_5 (Nat.le_of_ble_eq_true rfl) [1, 2, 0] rfl ?_
  refine ro_iload_n F dJ2_grow_2_6 2 rfl ?_
  refine ro_if_gt (tgt := 20) F dJ2_grow_2_7 (by decide) (fun z => absurd z (by decide)) (fun _ => ?_)
  refine ro_aload_n F dJ2_grow_2_10 0 rfl ?_
  refine hh_get F F.k.1 in_J2 (F.k.c rfl) a hL.1 1 (by decide) qJ2_9 (fun _ h => h) (Nat.le_of_ble_eq_true rfl) (v := .ref (ad 63)) rfl dJ2_grow_2_11 ?_
  refine hh_gets F hA (q := 63) F.k.2.2.2.1.2.2.2 (by decide) qJ2_39 dJ2_grow_2_14 ?_
  refine ro_acmp_eq (tgt := 45) F dJ2_grow_2_17 (by decide) (fun _ => ?_) (fun z => absurd rfl z)
  refine ro_aload_n F dJ2_grow_2_45 0 rfl ?_
  refine ro_bipush (v := nI 10) F dJ2_grow_2_46 (by decide) ?_
  refine ro_iload_n F dJ2_grow_2_48 1 rfl ?_
  refine Wd.eqs (st' := ([.int (nI 10), .int (nI 1)] : List Value).reverse ++ [.ref (ad a)]) rfl ?_
  refine ca_S (N := 2) (by rw [hA]; exact KC_st x) F (fun q hq => by rw [hA]; exact hq) (metJ7_max (PicH x) (KC x) (hx_A x) _ (gx_l g) (nI 10) (nI 1)) cwJ2_79 (by decide +kernel) rfl (Nat.le_of_ble_eq_true rfl) (Nat.le_of_ble_eq_true rfl) (Nat.le_of_ble_eq_true rfl) (Nat.le_of_ble_eq_true rfl) (Nat.le_of_ble_eq_true rfl) dJ2_grow_2_49 (fun v w' hp => ?_)
  rw [hp.1, hp.2]
  refine Wd.eqs (st' := [.int (nI 10), .ref (ad a)]) rfl ?_
  refine hh_newq F F.k.1 4 (by decide) rfl q650 F.k.2.2.2.2.2.2.1.2.2.2.2.1 q' hq hqn (N := 10) (by decide) (Nat.le_of_ble_eq_true rfl) (Nat.le_of_ble_eq_true rfl) dJ2_grow_2_52 (fun h => ?_)
  refine ro_dup_x1 F dJ2_grow_2_55 rfl rfl ?_
  refine Wd.eqs (st' := [.ref (up1 ad q' h q'), .ref (up1 ad q' h a), .ref (up1 ad q' h q')]) (by rw [up1_n ad h hne]) ?_
  refine hh_putG F F.k.1 hA in_J2 tyJ2 tyJ2_ok nmJ2 (F.k.c rfl) a (fl := [none, some (some 63), none]) (by rw [up1_n _ _ hne]; exact hL.1) ha 1 (by decide) qJ2_9 (fun _ h => h) (Nat.le_of_ble_eq_true rfl) (Or.inl rfl) (some (some q')) cm (fun _ _ _ => rfl) (fun r hr => by cases hr; exact ⟨_, up1_s _ _ _⟩) rfl rfl rfl dJ2_grow_2_56 ?_
  exact hret _ _ _ _ _ _ (Nat.le_refl _) (Nat.le_refl _) dJ2_grow_2_59 ⟨h, rfl, rfl⟩
set_option maxHeartbeats 4000000 in
theorem metJ2_grow (a q' : Nat) (e : Nat → Nat) (hds : FixD ds) (hL : LsD ds a 63 0 0 e) (hn : cm a 2 = nI 0) (ha : a % 64 < 60) (hq : q' % 64 < 60) (hqn : ds q' = none) :
    Cn l yJ2_grow (ws_ yJ2_grow cJ2_grow 1 (some (.array (.object "java/lang/Object")))) 3 1 10 [.ref (ad a)] (PicH x) (KC x) (hx_A x) (ad, ds, cm) (fun rv_ w_ => ∃ h, rv_ = some (.ref (up1 ad q' h q')) ∧ w_ = (up1 ad q' h, up1 (up1 ds q' (some (.inr (4, 10, some (fun _ => none))))) a (some (.inl (3, [none, some (some q'), none]))), cm)) := by
  refine cn_a (own := RJ2) (Or.inr ⟨_, rfl⟩) rfl (Nat.le_of_ble_eq_true rfl) rfl (fun g hgl hA F hret => ?_)
  refine Wd.eql (lv' := [(0, .ref (ad a))]) rfl ?_
  refine ro_aload_n F dJ2_grow_0 0 rfl ?_
  refine ro_aload_n F dJ2_grow_1 0 rfl ?_
  refine hh_get F F.k.1 in_J2 (F.k.c rfl) a hL.1 2 (by decide) qJ2_48 (fun _ h => h) (Nat.le_of_ble_eq_true rfl) (v := .int (nI 0)) (congrArg Value.int hn) dJ2_grow_2 ?_
  refine ro_iconst (v := nI 1) F dJ2_grow_5 (by decide) ?_
  refine ro_iaddN F dJ2_grow_6 ?_
  refine Wd.eqs (st' := ([.int (nI 1)] : List Value).reverse ++ .ref (ad a) :: []) rfl ?_
  refine ca_V (N := 1) (by rw [hA]; exact KC_st x) F (fun q hq => by rw [hA]; exact hq) (metJ2_grow_2 (gx_l g) x ad ds cm a q' e hds hL ha hq hqn) cwJ2_69 (hh_recv F.k.1 hL.1 (F.k.c rfl)) (by decide +kernel) rfl (Nat.le_of_ble_eq_true rfl) (Nat.le_of_ble_eq_true rfl) (Nat.le_refl _) (Nat.le_refl _) (Nat.le_of_ble_eq_true rfl) dJ2_grow_7 (fun v w' hp => ?_)
  obtain ⟨h, e1, e2⟩ := hp
  rw [e1, e2]
  exact hret _ _ _ _ _ _ (Nat.le_refl _) (Nat.le_refl _) dJ2_grow_10 ⟨h, rfl, rfl⟩
/-- what may lie in a list -/
def ElOk (ds : Nat → Option Lay) (p : Nat) : Prop := (∃ fl, ds p = some (.inl (5, fl))) ∨ (∃ fl, ds p = some (.inl (4, fl))) ∨ ∃ N, ds p = some (.inr (0, N, none))
theorem ElOk.ex {ds : Nat → Option Lay} {p : Nat} (h : ElOk ds p) : ∃ L, ds p = some L := by
  rcases h with ⟨_, h⟩ | ⟨_, h⟩ | ⟨_, h⟩ <;> exact ⟨_, h⟩
theorem el_any {x : Hx} {g : Gx} {cc : ByteArray} {nL : Nat} {own : String} {d mc ms : Nat} {ad : Nat → Nat} {ds : Nat → Option Lay} {cm : Mem} {p : Nat} (F : Fx g cc nL own d mc ms (KC x)) (h : ElOk ds p) : ∀ H, PicH x (ad, ds, cm) H → va_Any "java/lang/Object" (gx_s g) H (ad p) := by
  rcases h with ⟨_, h⟩ | ⟨_, h⟩ | ⟨_, h⟩
  · exact hh_any F h rfl (by decide)
  · exact hh_any F h rfl (by decide)
  · exact hh_anyA F h (by decide) rfl (by decide)
/-- behind an add: the list has one more -/
def AddP (ad : Nat → Nat) (ds : Nat → Option Lay) (a qa q n p : Nat) (e : Nat → Nat) (ad' : Nat → Nat) (ds' : Nat → Option Lay) : Prop :=
  (∀ r, r ≠ qa → ad' r = ad r) ∧ (∀ r, r ≠ qa → r ≠ a → ds' r = ds r) ∧ LsD ds' a qa 10 (n + 1) (up1 e n p) ∧ (q = qa → ad' = ad)
theorem up_ls {e : Nat → Nat} {n p : Nat} : up1 (fun j => if j < n then some (e j) else none) n (some p) = (fun j => if j < n + 1 then some (up1 e n p j) else none) := by
  funext j
  by_cases h : j = n
  · rw [h, up1_s, if_pos (by omega), up1_s]
  · rw [up1_n _ _ h, up1_n _ _ h]
    by_cases c : j < n
    · rw [if_pos c, if_pos (by omega)]
    · rw [if_neg c, if_neg (by omega)]
set_option maxHeartbeats 4000000 in
theorem metJ2_add_2 (a qa q N n p : Nat) (e : Nat → Nat) (hds : FixD ds) (hL : LsD ds a q N n e) (hn : cm a 2 = nI n) (hn9 : n < 10) (ha : a % 64 < 60) (hqa : qa % 64 < 60) (haq : qa ≠ a) (hq : (q = 63 ∧ N = 0 ∧ ds qa = none) ∨ (q = qa ∧ N = 10)) (hp : ElOk ds p) (hpa : p ≠ a) (hpq : p ≠ qa) :
    Cn l yJ2_add_2 (ws_ yJ2_add_2 cJ2_add_2 4 none) 4 1 10 [.ref (ad a), .ref (ad p), .ref (ad q), .int (nI n)] (PicH x) (KC x) (hx_A x) (ad, ds, cm) (fun rv_ w_ => rv_ = none ∧ ∃ ad' ds', w_ = (ad', ds', m2 cm a 2 (nI (n + 1))) ∧ AddP ad ds a qa q n p e ad' ds') := by
  have h1 := hL.2.2.1
  have h2 := hL.2.2.2
  refine cn_v (own := RJ2) rfl (Nat.le_of_ble_eq_true rfl) rfl (fun g hgl hA F hret => ?_)
  refine Wd.eql (lv' := [(0, .ref (ad a)), (1, .ref (ad p)), (2, .ref (ad q)), (3, .int (nI n))]) rfl ?_
  have tail : ∀ (k n' : Nat) (ad' : Nat → Nat) (ds' : Nat → Option Lay), k ≤ 1 → n' ≤ 10 → (∀ r, r ≠ qa → ad' r = ad r) → (∀ r, r ≠ qa → r ≠ a → ds' r = ds r) → LsD ds' a qa 10 n e → (q = qa → ad' = ad) → Wd (PicH x) g 4 (ad', ds', cm) k n' 11 [(0, .ref (ad' a)), (1, .ref (ad' p)), (2, .ref (ad' qa)), (3, .int (nI n))] [] := by
    intro k n' ad' ds' hk hn' t1 t2 t3 t4
    have hp' : ElOk ds' p := by unfold ElOk; rw [t2 p hpq hpa]; exact hp
    refine ro_aload_n F dJ2_add_2_11 2 rfl ?_
    refine ro_iload_n F dJ2_add_2_12 3 rfl ?_
    refine ro_aload_n F dJ2_add_2_13 1 rfl ?_
    refine hh_stA F F.k.1 hA qa 4 10 t3.2.1 hqa (by decide) rfl (by decide) (j := n) hn9 hp'.ex (el_any F hp') dJ2_add_2_14 ?_
    refine ro_aload_n F dJ2_add_2_15 0 rfl ?_
    refine ro_iload_n F dJ2_add_2_16 3 rfl ?_
    refine ro_iconst (v := nI 1) F dJ2_add_2_17 (by decide) ?_
    refine ro_iaddN F dJ2_add_2_18 ?_
    refine hh_put F F.k.1 hA in_J2 tyJ2 tyJ2_ok nmJ2 (F.k.c rfl) a (by rw [up1_n _ _ haq.symm]; exact t3.1) ha 2 (by decide) qJ2_48 (fun _ h => h) (Nat.le_of_ble_eq_true rfl) rfl rfl rfl rfl dJ2_add_2_19 ?_
    refine hret _ _ _ _ _ hk hn' dJ2_add_2_22 ⟨rfl, _, _, rfl, t1, fun r e1 e2 => ?_, ⟨by rw [up1_n _ _ haq.symm]; exact t3.1, by rw [up1_s, up_ls], by omega, by decide⟩, t4⟩
    rw [up1_n _ _ e1]
    exact t2 r e1 e2
  refine ro_iload_n F dJ2_add_2_0 3 rfl ?_
  refine ro_aload_n F dJ2_add_2_1 2 rfl ?_
  refine hh_alen F F.k.1 q 4 N (by decide) hL.2.1 dJ2_add_2_2 ?_
  refine ro_icmp_neN (tgt := 11) F dJ2_add_2_3 (by decide) (by omega) (by omega) (fun z => ?_) (fun z => ?_)
  · rcases hq with ⟨-, e2, -⟩ | ⟨e1, e2⟩
    · exact absurd (by omega) z
    · subst e1; subst e2
      exact tail 0 0 ad ds (by decide) (by decide) (fun _ _ => rfl) (fun _ _ _ => rfl) hL (fun _ => rfl)
  · rcases hq with ⟨e1, e2, e3⟩ | ⟨e1, e2⟩
    · subst e1; subst e2; subst z
      refine ro_aload_n F dJ2_add_2_6 0 rfl ?_
      refine Wd.eqs (st' := ([] : List Value).reverse ++ .ref (ad a) :: []) rfl ?_
      refine ca_V (N := 0) (by rw [hA]; exact KC_st x) F (fun q hq => by rw [hA]; exact hq) (metJ2_grow (gx_l g) x ad ds cm a qa e hds hL hn ha hqa e3) cwJ2_129 (hh_recv F.k.1 hL.1 (F.k.c rfl)) (by decide +kernel) rfl (Nat.le_of_ble_eq_true rfl) (Nat.le_of_ble_eq_true rfl) (Nat.le_refl _) (Nat.le_refl _) (Nat.le_of_ble_eq_true rfl) dJ2_add_2_7 (fun v w' hp' => ?_)
      obtain ⟨h, e4, e5⟩ := hp'
      rw [e4, e5]
      refine ro_astore_n (lv' := [(0, .ref (ad a)), (1, .ref (ad p)), (2, .ref (up1 ad qa h qa)), (3, .int (nI 0))]) F dJ2_add_2_10 (Nat.le_of_ble_eq_true rfl) [1, 2, 0, 3] rfl ?_
      refine Wd.eql (lv' := [(0, .ref (up1 ad qa h a)), (1, .ref (up1 ad qa h p)), (2, .ref (up1 ad qa h qa)), (3, .int (nI 0))]) (by rw [up1_n ad h haq.symm, up1_n ad h hpq]) ?_
      refine tail 1 10 _ _ (by decide) (by decide) (fun r hr => up1_n _ _ hr) (fun r e6 e7 => by rw [up1_n _ _ e7, up1_n _ _ e6]) ⟨up1_s _ _ _, ?_, by decide, by decide⟩ (fun z => absurd z (fun z => by rw [← z] at hqa; exact absurd hqa (by decide)))
      rw [up1_n _ _ haq, up1_s]
      congr 5
    · omega
set_option maxHeartbeats 4000000 in
theorem metJ2_add (a qa q N n p : Nat) (e : Nat → Nat) (hds : FixD ds) (hL : LsD ds a q N n e) (hn : cm a 2 = nI n) (hn9 : n < 10) (ha : a % 64 < 60) (hqa : qa % 64 < 60) (haq : qa ≠ a) (hq : (q = 63 ∧ N = 0 ∧ ds qa = none) ∨ (q = qa ∧ N = 10)) (hp : ElOk ds p) (hpa : p ≠ a) (hpq : p ≠ qa) :
    Cn l yJ2_add (ws_ yJ2_add cJ2_add 2 (some .boolean)) 5 1 10 [.ref (ad a), .ref (ad p)] (PicH x) (KC x) (hx_A x) (ad, ds, cm) (fun rv_ w_ => rv_ = some (.int (nI 1)) ∧ ∃ ad' ds', w_ = (ad', ds', m2 (m2 cm a 0 (cm a 0 + 1)) a 2 (nI (n + 1))) ∧ AddP ad ds a qa q n p e ad' ds') := by
  refine cn_i (own := RJ2) rfl (Nat.le_of_ble_eq_true rfl) rfl (fun g hgl hA F hret => ?_)
  refine Wd.eql (lv' := [(0, .ref (ad a)), (1, .ref (ad p))]) rfl ?_
  refine ro_aload_n F dJ2_add_0 0 rfl ?_
  refine ro_dup F dJ2_add_1 rfl ?_
  refine hh_get F F.k.1 in_J2 (F.k.c rfl) a hL.1 0 (by decide) qJ2_63 (u_same (F.ts _ q144)) (Nat.le_of_ble_eq_true rfl) (v := .int (cm a 0)) rfl dJ2_add_2 ?_
  refine ro_iconst (v := 1) F dJ2_add_5 (by decide) ?_
  refine ro_iadd F dJ2_add_6 ?_
  refine hh_put F F.k.1 hA in_J2 tyJ2 tyJ2_ok nmJ2 (F.k.c rfl) a hL.1 ha 0 (by decide) qJ2_63 (u_same (F.ts _ q144)) (Nat.le_of_ble_eq_true rfl) rfl rfl rfl rfl dJ2_add_7 ?_
  generalize hm1 : m2 cm a 0 (cm a 0 + 1) = m1
  have hn1 : m1 a 2 = nI n := by rw [← hm1, m2_i _ _ (by decide)]; exact hn
  refine ro_aload_n F dJ2_add_10 0 rfl ?_
  refine ro_aload_n F dJ2_add_11 1 rfl ?_
  refine ro_aload_n F dJ2_add_12 0 rfl ?_
  refine hh_get F F.k.1 in_J2 (F.k.c rfl) a hL.1 1 (by decide) qJ2_9 (fun _ h => h) (Nat.le_of_ble_eq_true rfl) (v := .ref (ad q)) rfl dJ2_add_13 ?_
  refine ro_aload_n F dJ2_add_16 0 rfl ?_
  refine hh_get F F.k.1 in_J2 (F.k.c rfl) a hL.1 2 (by decide) qJ2_48 (fun _ h => h) (Nat.le_of_ble_eq_true rfl) (v := .int (nI n)) (congrArg Value.int hn1) dJ2_add_17 ?_
  refine Wd.eqs (st' := ([.ref (ad p), .ref (ad q), .int (nI n)] : List Value).reverse ++ .ref (ad a) :: []) rfl ?_
  refine ca_V (N := 3) (by rw [hA]; exact KC_st x) F (fun q hq => by rw [hA]; exact hq) (metJ2_add_2 (gx_l g) x ad ds m1 a qa q N n p e hds hL hn1 hn9 ha hqa haq hq hp hpa hpq) cwJ2_131 (hh_recv F.k.1 hL.1 (F.k.c rfl)) (by decide +kernel) rfl (Nat.le_of_ble_eq_true rfl) (Nat.le_of_ble_eq_true rfl) (Nat.le_refl _) (Nat.le_refl _) (Nat.le_of_ble_eq_true rfl) dJ2_add_20 (fun v w' hp' => ?_)
  obtain ⟨e1, ad', ds', e2, e3⟩ := hp'
  rw [e1, e2]
  refine ro_iconst (v := nI 1) F dJ2_add_23 (by decide) ?_
  exact hret _ _ _ _ _ _ (Nat.le_refl _) (Nat.le_refl _) dJ2_add_24 rfl ⟨rfl, ad', ds', by rw [← hm1], e3⟩
set_option maxHeartbeats 4000000 in
theorem metJ2_fastRemove (a q N n : Nat) (e : Nat → Nat) (hL : LsD ds a q N (n + 1) e) (hn : cm a 2 = nI (n + 1)) (ha : a % 64 < 60) (hq : q % 64 < 60) :
    Cn l yJ2_fastRemove (ws_ yJ2_fastRemove cJ2_fastRemove 4 none) 1 0 0 [.ref (ad a), .ref (ad q), .int (nI n)] (PicH x) (KC x) (hx_A x) (ad, ds, cm) (fun rv_ w_ => rv_ = none ∧ w_ = (ad, up1 ds q (some (.inr (4, N, some (fun j => if j < n then some (e j) else none)))), m2 (m2 cm a 0 (cm a 0 + 1)) a 2 (nI n))) := by
  have h1 := hL.2.2.1
  have h2 := hL.2.2.2
  refine cn_v (own := RJ2) rfl (Nat.le_of_ble_eq_true rfl) rfl (fun g hgl hA F hret => ?_)
  refine Wd.eql (lv' := [(0, .ref (ad a)), (1, .ref (ad q)), (2, .int (nI n))]) rfl ?_
  refine ro_aload_n F dJ2_fastRemove_0 0 rfl ?_
  refine ro_dup F dJ2_fastRemove_1 rfl ?_
  refine hh_get F F.k.1 in_J2 (F.k.c rfl) a hL.1 0 (by decide) qJ2_63 (u_same (F.ts _ q144)) (Nat.le_of_ble_eq_true rfl) (v := .int (cm a 0)) rfl dJ2_fastRemove_2 ?_
  refine ro_iconst (v := 1) F dJ2_fastRemove_5 (by decide) ?_
  refine ro_iadd F dJ2_fastRemove_6 ?_
  refine hh_put F F.k.1 hA in_J2 tyJ2 tyJ2_ok nmJ2 (F.k.c rfl) a hL.1 ha 0 (by decide) qJ2_63 (u_same (F.ts _ q144)) (Nat.le_of_ble_eq_true rfl) rfl rfl rfl rfl dJ2_fastRemove_7 ?_
  have hn1 : m2 cm a 0 (cm a 0 + 1) a 2 = nI (n + 1) := by rw [m2_i _ _ (by decide)]; exact hn
  refine ro_aload_n F dJ2_fastRemove_10 0 rfl ?_
  refine hh_get F F.k.1 in_J2 (F.k.c rfl) a hL.1 2 (by decide) qJ2_48 (fun _ h => h) (Nat.le_of_ble_eq_true rfl) (v := .int (nI (n + 1))) (congrArg Value.int hn1) dJ2_fastRemove_11 ?_
  refine ro_iconst (v := nI 1) F dJ2_fastRemove_14 (by decide) ?_
  refine ro_isubN F (by omega) dJ2_fastRemove_15 ?_
  refine Wd.eqs (st' := [.int (nI n)]) rfl ?_
  refine ro_dup F dJ2_fastRemove_16 rfl ?_
  refine ro_istore_n (lv' := [(0, .ref (ad a)), (1, .ref (ad q)), (2, .int (nI n)), (3, .int (nI n))]) F dJ2_fastRemove_17 (Nat.le_of_ble_eq_true rfl) [1, 2, 3, 0] rfl ?_
  refine ro_iload_n F dJ2_fastRemove_18 2 rfl ?_
  refine ro_icmp_le (tgt := 34) F dJ2_fastRemove_19 (by decide) (fun _ => ?_) (fun z => absurd (nI_le (Nat.le_refl n) (by omega)) z)
  refine ro_aload_n F dJ2_fastRemove_34 1 rfl ?_
  refine ro_aload_n F dJ2_fastRemove_35 0 rfl ?_
  refine ro_iload_n F dJ2_fastRemove_36 3 rfl ?_
  refine ro_dup_x1 F dJ2_fastRemove_37 rfl rfl ?_
  refine hh_put F F.k.1 hA in_J2 tyJ2 tyJ2_ok nmJ2 (F.k.c rfl) a hL.1 ha 2 (by decide) qJ2_48 (fun _ h => h) (Nat.le_of_ble_eq_true rfl) rfl rfl rfl rfl dJ2_fastRemove_38 ?_
  refine ro_null F dJ2_fastRemove_41 ?_
  refine hh_stN F F.k.1 hA q 4 N hL.2.1 hq (by decide) rfl (by omega) (j := n) (by omega) dJ2_fastRemove_42 ?_
  refine hret _ _ _ _ _ (Nat.le_refl _) (Nat.le_refl _) dJ2_fastRemove_43 ⟨rfl, ?_⟩
  congr 3
  congr 5
  funext j
  by_cases ej : j = n
  · rw [ej, up1_s, if_neg (by omega)]
  · rw [up1_n _ _ ej]
    by_cases c : j < n
    · rw [if_pos c, if_pos (by omega)]
    · rw [if_neg c, if_neg (by omega)]
set_option maxHeartbeats 4000000 in
theorem metJ2_remove (a q N n : Nat) (e : Nat → Nat) (hL : LsD ds a q N (n + 1) e) (hn : cm a 2 = nI (n + 1)) (ha : a % 64 < 60) (hq : q % 64 < 60) :
    Cn l yJ2_remove (ws_ yJ2_remove cJ2_remove 4 (some (.object "java/lang/Object"))) 3 0 0 [.ref (ad a), .int (nI n)] (PicH x) (KC x) (hx_A x) (ad, ds, cm) (fun rv_ w_ => rv_ = some (.ref (ad (e n))) ∧ w_ = (ad, up1 ds q (some (.inr (4, N, some (fun j => if j < n then some (e j) else none)))), m2 (m2 cm a 0 (cm a 0 + 1)) a 2 (nI n))) := by
  have h1 := hL.2.2.1
  have h2 := hL.2.2.2
  refine cn_a (own := RJ2) (Or.inl ⟨_, rfl⟩) rfl (Nat.le_of_ble_eq_true rfl) rfl (fun g hgl hA F hret => ?_)
  refine Wd.eql (lv' := [(0, .ref (ad a)), (1, .int (nI n))]) rfl ?_
  refine ro_iload_n F dJ2_remove_0 1 rfl ?_
  refine ro_aload_n F dJ2_remove_1 0 rfl ?_
  refine hh_get F F.k.1 in_J2 (F.k.c rfl) a hL.1 2 (by decide) qJ2_48 (fun _ h => h) (Nat.le_of_ble_eq_true rfl) (v := .int (nI (n + 1))) (congrArg Value.int hn) dJ2_remove_2 ?_
  refine Wd.eqs (st' := ([.int (nI n), .int (nI (n + 1))] : List Value).reverse ++ []) rfl ?_
  refine ca_S (N := 2) (by rw [hA]; exact KC_st x) F (fun q hq => by rw [hA]; exact hq) (metJ13_checkIndex (gx_l g) (PicH x) (KC x) (hx_A x) (KC_st x) _ n (n + 1) (by omega) (by omega)) cwJ2_118 (by decide +kernel) rfl (Nat.le_of_ble_eq_true rfl) (Nat.le_of_ble_eq_true rfl) (Nat.le_refl _) (Nat.le_refl _) (Nat.le_of_ble_eq_true rfl) dJ2_remove_5 (fun v w' hp => ?_)
  rw [hp.1, hp.2]
  refine ro_pop F dJ2_remove_8 rfl ?_
  refine ro_aload_n F dJ2_remove_9 0 rfl ?_
  refine hh_get F F.k.1 in_J2 (F.k.c rfl) a hL.1 1 (by decide) qJ2_9 (fun _ h => h) (Nat.le_of_ble_eq_true rfl) (v := .ref (ad q)) rfl dJ2_remove_10 ?_
  refine ro_astore_n (lv' := [(0, .ref (ad a)), (1, .int (nI n)), (2, .ref (ad q))]) F dJ2_remove_13 (Nat.le_of_ble_eq_true rfl) [1, 2, 0] rfl ?_
  refine ro_aload_n F dJ2_remove_14 2 rfl ?_
  refine ro_iload_n F dJ2_remove_15 1 rfl ?_
  refine hh_ldA F F.k.1 q 4 N hL.2.1 (by decide) rfl (by omega) (q := e n) (by omega) dJ2_remove_16 (if_pos (by omega)) ?_
  refine ro_astore_n (lv' := [(0, .ref (ad a)), (1, .int (nI n)), (2, .ref (ad q)), (3, .ref (ad (e n)))]) F dJ2_remove_17 (Nat.le_of_ble_eq_true rfl) [1, 2, 3, 0] rfl ?_
  refine ro_aload_n F dJ2_remove_18 0 rfl ?_
  refine ro_aload_n F dJ2_remove_19 2 rfl ?_
  refine ro_iload_n F dJ2_remove_20 1 rfl ?_
  refine Wd.eqs (st' := ([.ref (ad q), .int (nI n)] : List Value).reverse ++ .ref (ad a) :: []) rfl ?_
  refine ca_V (N := 2) (by rw [hA]; exact KC_st x) F (fun q hq => by rw [hA]; exact hq) (metJ2_fastRemove (gx_l g) x ad ds cm a q N n e hL hn ha hq) cwJ2_144 (hh_recv F.k.1 hL.1 (F.k.c rfl)) (by decide +kernel) rfl (Nat.le_of_ble_eq_true rfl) (Nat.le_of_ble_eq_true rfl) (Nat.le_refl _) (Nat.le_refl _) (Nat.le_of_ble_eq_true rfl) dJ2_remove_21 (fun v w' hp => ?_)
  rw [hp.1, hp.2]
  refine ro_aload_n F dJ2_remove_24 3 rfl ?_
  exact hret _ _ _ _ _ _ (Nat.le_refl _) (Nat.le_refl _) dJ2_remove_25 ⟨rfl, rfl⟩
end LM
