/-! CONSTRUCTORS: Object's, Saver's, Partner's; Torn's with Throwable's: an object beside the places -/
section CT
variable {α : Type} {Pic : α → Heap → Prop} {cc : ByteArray} {nL : Nat} {own : String} {d mc ms : Nat} {K : State → Prop} {A : Nat → Prop} {w : α}
theorem cn_vI {l : Launch} {y : MethodName} {as : List Value} {post : Option Value → α → Prop} (hy : plainName y.cls = true) (hn : (lg_sl as).length ≤ nL) (hown : y.cls = own)
    (body : ∀ g : Gx, gx_l g = l → gx_A g = A → (gx_me g).name = y.name → Fx g cc nL own d mc ms K → RetV g cc nL Pic post mc ms → Wd Pic g nL w 0 0 0 (lv_args 0 as) []) : Cn l y (ws_ y cc nL none) d mc ms as Pic K A w post :=
  cn_start hy rfl (fun w h => List.mem_cons_of_mem _ h) hn hown (fun g hl F hr hA hQ _ hnm _ => body g hl hA hnm F (ret_v F hr hA hQ))
end CT
section CO
variable {α : Type} {Pic : α → Heap → Prop} {g : Gx} {cc : ByteArray} {nL : Nat} {own : String} {d mc ms : Nat} {K : State → Prop} {w : α} {k n pc : Nat} {lv : Lv} {rest : List Value}
theorem ro_obj (F : Fx g cc nL own d mc ms K) {idx a : Nat} (hlk : Cond.methodLink own idx Lib.objectInit ∈ lw_all) (hd1 : 1 ≤ d) (hst : (rest.map fun v => v.category).sum ≤ 8) (hd : decode cc pc = .ok (.invokespecial idx, 3))
    (kk : Wd Pic g nL w k n (pc + 3) lv rest) : Wd Pic g nL w k n pc lv (.ref a :: rest) := fun H locs ls hP hS hl => by
  have h1 := F.fr
  have h2 := F.lo
  exact W.objInit F.x F.b F.own (F.ts _ hlk) (F.ts _ q115) (F.ts _ q116) rfl (hl.1.trans F.ml.symm) rfl hd (by omega) (by show 2 * 0 + _ + 12 ≤ _; omega) (kk H locs ls hP hS hl)
theorem ro_aload_nN (F : Fx g cc nL own d mc ms K) {i : Fin 4} (hd : decode cc pc = .ok (.aload_n i, 1)) (j : Nat) (hl : lv[j]? = some ((i : Nat), .null)) (kk : Wd Pic g nL w k n (pc + 1) lv (.null :: rest)) : Wd Pic g nL w k n pc lv rest := fun H locs ls hP hS h => lv_aload_nN F.x F.b hd rfl (lv_at h j hl) (kk H locs ls hP hS h)
end CO
/-- an object beside the places: its address, its class's number, its fields -/
abbrev Ho : Type := Hw × Nat × Nat × List Value
def PicO (x : Hx) (v : Ho) (H : Heap) : Prop := PicH x v.1 H ∧ va_at (hx_D x) (hx_cl x) (v.2.1, .inr (v.2.2.1, v.2.2.2)) H ∧ hx_A x v.2.1 ∧ ∀ p L, v.1.2.1 p = some L → v.1.1 p ≠ v.2.1
/-- the places don't see what lies beside them -/
theorem PicH.beside {x : Hx} {w : Hw} {H H1 : Heap} {t : Nat} (hP : PicH x w H) (hz : H.size ≤ H1.size) (oq : ∀ q : Nat, q < H.size → q ≠ t → H1[q]? = H[q]?) (ht : ∀ p L, w.2.1 p = some L → w.1 p ≠ t) : PicH x w H1 :=
  ⟨fun p L hL => (hP.1 p L hL).kept (oq _ (hP.1 p L hL).lt (ht p L hL)), hP.2.1, hP.2.2.1, Nat.le_trans hP.2.2.2.1 hz, hP.2.2.2.2⟩
section PO
variable {x : Hx} {g : Gx} {cc : ByteArray} {nL : Nat} {own : String} {d mc ms : Nat} {K : State → Prop} {w : Hw} {k n pc : Nat} {lv : Lv} {rest : List Value}
theorem po_new (F : Fx g cc nL own d mc ms K) (hK : KH0 x (gx_s g)) {C : String} {T : u_T} {N ci index : Nat} (hin : ∀ w ∈ u_ws C T N, w ∈ lw_all) (ty : Nat → FieldType) (hty : ∀ k, k < N → parseFieldDescriptor (T k).2.2.1 = some (ty k)) (hc : (hx_cl x)[ci]? = some (C, T, N)) (hcl : Cond.classLink own index C ∈ lw_all) (hins : Cond.instantiable C N ∈ lw_all) (hini : Cond.initialized C ∈ lw_all) (fs : List Value) (hfs : ∀ j, j < N → defaultValue (ty j) = vp_V fs j) (hk : k + 1 ≤ mc) (hs : n + N ≤ ms) (hd : decode cc pc = .ok (.new index, 3))
    (kk : ∀ t : Nat, Wd (PicO x) g nL (w, t, ci, fs) (k + 1) (n + N) (pc + 3) lv (.ref t :: rest)) : Wd (PicH x) g nL w k n pc lv rest := by
  intro H locs ls hP hS hl
  have hKn := hK.1 ci _ hc
  refine W.newcK F.x F.b F.own (F.ts _ hcl) (F.ts _ hins) (F.ts _ hini) rfl hd (Nat.le_trans hk F.ce) (Nat.le_trans hs F.sl) hKn.2.1 rfl fun H1 kC hkC e1 z1 o1 => ?_
  have hne : ∀ p L, w.2.1 p = some L → w.1 p ≠ H.size := fun p L hL => Nat.ne_of_lt (hP.1 p L hL).lt
  exact kk H.size H1 locs ls ⟨hP.beside (by omega) (fun q hq _ => o1 q hq) hne, ⟨_, hc, (u_born ty F.ts hin hKn hkC e1 hty).to hfs⟩, hK.2.2 _ hP.2.2.2.1, hne⟩ ⟨Nat.le_trans hS.1 (by omega), fun q g1 g2 => (o1 q (Nat.lt_of_lt_of_le g1 hS.1)).trans (hS.2.1 q g1 g2), hS.2.2⟩ hl
/-- a field of the object beside the places is stored -/
theorem po_put (F : Fx g cc nL own d mc ms K) (hK : KH0 x (gx_s g)) (hgA : gx_A g = hx_A x) {ref C : String} {T : u_T} {N ci index : Nat} (hin : ∀ w ∈ u_ws C T N, w ∈ lw_all) (ty : Nat → FieldType) (hty : ∀ k, k < N → parseFieldDescriptor (T k).2.2.1 = some (ty k)) (hnm : ∀ a, a < N → ∀ b, b < N → a ≠ b → (T a).2.1 ≠ (T b).2.1) (hc : (hx_cl x)[ci]? = some (C, T, N)) (t : Nat) (fs : List Value) (f : Nat) (hf : f < N) (hlk : Cond.fieldLink own index ref (T f).2.1 (T f).2.2.1 ∈ lw_all) (hsame : ∀ z, (gx_s g).fieldFound? (T f).1 (T f).2.1 (T f).2.2.1 = some z → (gx_s g).fieldFound? ref (T f).2.1 (T f).2.2.1 = some z) (hfl : f < fs.length) (hfin : (T f).2.2.2 = false ∨ ((T f).2.2.2 = true ∧ (gx_me g).name = "<init>" ∧ (T f).1 = own)) {v : Value} (hn : narrow (ty f) v = v) (hfit : fits (ty f) v = true) (hd : decode cc pc = .ok (.putfield index, 3))
    (kk : Wd (PicO x) g nL (w, t, ci, fs.set f v) k n (pc + 3) lv rest) : Wd (PicO x) g nL (w, t, ci, fs) k n pc lv (v :: .ref t :: rest) := by
  intro H locs ls hP hS hl
  obtain ⟨hPH, hat, htA, hne⟩ := hP
  have hap := va_apart (own := own) F.ts hin ty hty hnm hK.K hc
  obtain ⟨r, h1, cell, q1, q2, q3, q4⟩ := hat
  have hr0 : r = (C, T, N) := Option.some.inj (h1.symm.trans hc)
  subst hr0
  obtain ⟨hS1, hfc, kC, hkC, hkind⟩ := hK.1 ci _ hc
  obtain ⟨cf, kf, fi, fd, hi1, hsl⟩ := hS1 f hf
  have hlay := F.ts _ (hin _ (u_in_lay hf))
  have hst := (u_facts hfc hkC (u_lays F.ts hin hf) hi1).1
  have fin : ∀ (H' : Heap) (locs' : List Loc), H'[t]? = some (cell.setSlot fd.slot v) → H'.size = H.size → (∀ q, q ≠ t → H'[q]? = H[q]?) → locs' = locs ++ [⟨t, fd.slot⟩] → Wg g H' locs' k n (F0 (gx_m g) (pc + 3) ls rest) := by
    intro H' locs' e1 e2 e3 e4
    subst e4
    rw [hsl] at e1 ⊢
    refine kk H' _ ls ⟨hPH.beside (by omega) (fun q _ hq => e3 q hq) hne, ?_, htA, hne⟩ (hS.put e2 e3 (by rw [hgA]; exact htA)) hl
    exact ⟨_, hc, t_OB.to (V := updV (vp_V fs) f v) ⟨_, e1, q2, q3, t_set q4 hap hf _⟩ (fun j _ => vp_updV_set hfl v j)⟩
  rcases hfin with hfin | ⟨hfin, hnm2, hdecl⟩
  · unfold u_lay at hlay
    rw [if_neg (by rw [hfin]; decide)] at hlay
    have h6 := u_store hfc hkC hkind hlay hi1 (hty f hf) hn hfit
    exact W.putK F.x F.b (f := fd) ⟨F.own, F.ts _ hlk, ⟨_, _, _, hsame _ hi1⟩, hst⟩ (by rw [q2]; exact h6) q1 q3 (by rw [hsl]; exact k2_hasslot (q4 f hf)) rfl rfl hd fun H' e1 e2 e3 => fin H' _ e1 e2 e3 rfl
  · unfold u_lay at hlay
    rw [if_pos hfin] at hlay
    have hcf : (gx_m g).cls = cf := by
      obtain ⟨_, _, c', _, _, _, -, -, hf', -, -, -, hown2, -⟩ := Cond.laysFinal_spec hlay
      have e1 : c' = cf := by have := hi1.symm.trans hf'; simp at this; exact this.1.symm
      rw [hdecl] at hown2
      rw [← e1]; exact Option.some.inj (F.own.symm.trans hown2)
    have h6 := u_fits hfc hkC hkind (Or.inr hlay) hi1 (hty f hf) hn hfit
    exact W.putFinK F.x F.b F.own (F.ts _ hlk) (hsame _ hi1) hst hcf hnm2 (by rw [q2]; exact h6) q1 q3 (by rw [hsl]; exact k2_hasslot (q4 f hf)) rfl rfl hd fun H' e1 e2 e3 => fin H' _ e1 e2 e3 rfl
/-- a row over the places, with the object beside them: getfield -/
theorem po_get (F : Fx g cc nL own d mc ms K) (hK : KH0 x (gx_s g)) {ref C : String} {T : u_T} {N ci index t c2 : Nat} {fs : List Value} {ad : Nat → Nat} {ds : Nat → Option Lay} {cm : Mem} (hin : ∀ w ∈ u_ws C T N, w ∈ lw_all) (hc : (hx_cl x)[ci]? = some (C, T, N)) (p : Nat) {fl : List (Option (Option Nat))} (hL : ds p = some (.inl (ci, fl))) (f : Nat) (hf : f < N) (hlk : Cond.fieldLink own index ref (T f).2.1 (T f).2.2.1 ∈ lw_all) (hsame : ∀ z, (gx_s g).fieldFound? (T f).1 (T f).2.1 (T f).2.2.1 = some z → (gx_s g).fieldFound? ref (T f).2.1 (T f).2.2.1 = some z) (hfl : f < fl.length) {v : Value} (hv : hw_f ad cm p f (fl.getD f none) = v) (hd : decode cc pc = .ok (.getfield index, 3))
    (kk : Wd (PicO x) g nL ((ad, ds, cm), t, c2, fs) k n (pc + 3) lv (v :: rest)) : Wd (PicO x) g nL ((ad, ds, cm), t, c2, fs) k n pc lv (.ref (ad p) :: rest) := by
  intro H locs ls hP hS hl
  exact va_get F.x F.b F.ts hin F.own hK.K (hw_one hP.1 hL) 0 rfl hc f hf (F.ts _ hlk) hsame (by rw [hw_fs_at ad cm p fl hfl, hv]) hd (kk H locs ls hP hS hl)
/-- the object becomes the place p -/
theorem po_in {ad : Nat → Nat} {ds : Nat → Option Lay} {cm cm' : Mem} {t ci : Nat} {fs : List Value} (p : Nat) (fl : List (Option (Option Nat))) (hp : p % 64 < 60) (hn : ds p = none) (hc : ∀ q, q ≠ p → cm' q = cm q) (hfl : ∀ r, ¬ some (some r) ∈ fl) (hfs : hw_fs ad cm' p fl = fs)
    (kk : Wd (PicH x) g nL (up1 ad p t, up1 ds p (some (.inl (ci, fl))), cm') k n pc lv rest) : Wd (PicO x) g nL ((ad, ds, cm), t, ci, fs) k n pc lv rest := by
  intro H locs ls hP hS hl
  refine kk H locs ls ?_ hS hl
  obtain ⟨hPH, hat, htA, hne⟩ := hP
  have hnp : ∀ q L', ds q = some L' → q ≠ p := fun q L' hq e => by rw [e, hn] at hq; cases hq
  refine ⟨fun q L' hq => ?_, fun q r L1 L2 h1 h2 e => ?_, fun q L' hq hq6 => ?_, hPH.2.2.2.1, fun q r L' hq hr' => ?_, fun q hq => ?_⟩
  · dsimp only at hq ⊢
    by_cases e : q = p
    · subst e
      rw [up1_s] at hq
      cases hq
      rw [up1_s, hw_cell_ad (ad := ad) (L := .inl (ci, fl)) (fun r hr => absurd hr (hfl r))]
      show va_at _ _ (t, .inr (ci, hw_fs ad cm' q fl)) H
      rw [hfs]
      exact hat
    · rw [up1_n _ _ e] at hq
      rw [up1_n _ _ e, hw_cell_ad (ad := ad) (fun r hr' => ?_), hw_cell_cm (hc q e)]
      · exact hPH.1 q L' hq
      · obtain ⟨L2, h2⟩ := hPH.2.2.2.2.1 q r L' hq hr'
        exact up1_n _ _ (hnp r L2 h2)
  · dsimp only at h1 h2 e
    by_cases e1 : q = p
    · by_cases e2 : r = p
      · omega
      · rw [up1_n _ _ e2] at h2
        rw [e1, up1_s, up1_n _ _ e2] at e
        exact absurd e.symm (hne r L2 h2)
    · rw [up1_n _ _ e1] at h1
      by_cases e2 : r = p
      · rw [e2, up1_s, up1_n _ _ e1] at e
        exact absurd e (hne q L1 h1)
      · rw [up1_n _ _ e2] at h2
        rw [up1_n _ _ e1, up1_n _ _ e2] at e
        exact hPH.2.1 q r L1 L2 h1 h2 e
  · dsimp only at hq ⊢
    by_cases e : q = p
    · rw [e, up1_s]; exact htA
    · rw [up1_n _ _ e] at hq ⊢
      exact hPH.2.2.1 q L' hq hq6
  · dsimp only at hq ⊢
    by_cases e : q = p
    · rw [e, up1_s] at hq
      cases hq
      exact absurd hr' (hfl r)
    · rw [up1_n _ _ e] at hq
      obtain ⟨L2, h⟩ := hPH.2.2.2.2.1 q r L' hq hr'
      exact ⟨L2, by rw [up1_n _ _ (hnp r L2 h)]; exact h⟩
  · dsimp only
    rw [up1_n _ _ (by omega)]
    exact hPH.2.2.2.2.2 q hq
end PO
/-- Torn's fields as they are made, and with its place told -/
def tnF (v : Int32) : List Value := [.null, .null, .null, .null, .null, .int 0, .int v]
section TN
variable (l : Launch) (x : Hx) (w : Hw) (t : Nat)
set_option maxHeartbeats 4000000 in
theorem metJ3_init_2 : Cn l yJ3_init_2 (ws_ yJ3_init_2 cJ3_init_2 5 none) 2 0 0 [.ref t, .null, .null, .int (nI 0), .int (nI 0)] (PicO x) (KC x) (hx_A x) (w, t, 7, tnF 0) (fun rv_ w_ => rv_ = none ∧ w_ = (w, t, 7, tnF 0)) := by
  refine cn_vI (own := RJ3) rfl (Nat.le_of_ble_eq_true rfl) rfl (fun g hgl hA hnm F hret => ?_)
  refine Wd.eql (lv' := [(0, .ref t), (1, .null), (2, .null), (3, .int (nI 0)), (4, .int (nI 0))]) rfl ?_
  obtain ⟨r1, hr1⟩ := F.k.2.2.2.2.2.1.2.1
  obtain ⟨r2, hr2⟩ := F.k.2.2.2.2.2.1.2.2
  have nr : ∀ (r : Option Nat) (C : String), narrow (.object C) (va_rf r) = va_rf r := fun r C => by cases r <;> rfl
  have fr : ∀ (r : Option Nat) (C : String), fits (.object C) (va_rf r) = true := fun r C => by cases r <;> rfl
  have na : ∀ (r : Option Nat) (C : FieldType), narrow (.array C) (va_rf r) = va_rf r := fun r C => by cases r <;> rfl
  have fa : ∀ (r : Option Nat) (C : FieldType), fits (.array C) (va_rf r) = true := fun r C => by cases r <;> rfl
  refine ro_aload_n F dJ3_init_2_0 0 rfl ?_
  refine ro_obj F q392 (by decide) (Nat.le_of_ble_eq_true rfl) dJ3_init_2_1 ?_
  refine ro_aload_n F dJ3_init_2_4 0 rfl ?_
  refine ro_aload_n F dJ3_init_2_5 0 rfl ?_
  refine po_put F F.k.1 hA in_X7 tyX7 tyX7_ok nmX7 (F.k.c rfl) t _ 0 (by decide) qJ3_7 (fun _ h => h) (Nat.le_of_ble_eq_true rfl) (Or.inl rfl) rfl rfl dJ3_init_2_6 ?_
  refine ro_aload_n F dJ3_init_2_9 0 rfl ?_
  refine ks_gets F hA hr1 qJ3_13 dJ3_init_2_10 ?_
  refine po_put F F.k.1 hA in_X7 tyX7 tyX7_ok nmX7 (F.k.c rfl) t _ 1 (by decide) qJ3_17 (fun _ h => h) (Nat.le_of_ble_eq_true rfl) (Or.inl rfl) (na r1 _) (fa r1 _) dJ3_init_2_13 ?_
  refine ro_aload_n F dJ3_init_2_16 0 rfl ?_
  refine ks_gets F hA hr2 qJ3_20 dJ3_init_2_17 ?_
  refine po_put F F.k.1 hA in_X7 tyX7 tyX7_ok nmX7 (F.k.c rfl) t _ 2 (by decide) qJ3_24 (fun _ h => h) (Nat.le_of_ble_eq_true rfl) (Or.inl rfl) (nr r2 _) (fr r2 _) dJ3_init_2_20 ?_
  refine ro_iload F dJ3_init_2_23 4 rfl ?_
  refine ro_if_eq (tgt := 36) F dJ3_init_2_25 (by decide) (fun _ => ?_) (fun z => absurd rfl z)
  refine ro_aload_n F dJ3_init_2_36 0 rfl ?_
  refine ro_null F dJ3_init_2_37 ?_
  refine po_put F F.k.1 hA in_X7 tyX7 tyX7_ok nmX7 (F.k.c rfl) t _ 1 (by decide) qJ3_17 (fun _ h => h) (Nat.le_of_ble_eq_true rfl) (Or.inl rfl) rfl rfl dJ3_init_2_38 ?_
  refine ro_aload_n F dJ3_init_2_41 0 rfl ?_
  refine ro_aload_nN F dJ3_init_2_42 1 rfl ?_
  refine po_put F F.k.1 hA in_X7 tyX7 tyX7_ok nmX7 (F.k.c rfl) t _ 3 (by decide) qJ3_31 (fun _ h => h) (Nat.le_of_ble_eq_true rfl) (Or.inl rfl) rfl rfl dJ3_init_2_43 ?_
  refine ro_aload_n F dJ3_init_2_46 0 rfl ?_
  refine ro_aload_nN F dJ3_init_2_47 2 rfl ?_
  refine po_put F F.k.1 hA in_X7 tyX7 tyX7_ok nmX7 (F.k.c rfl) t _ 0 (by decide) qJ3_7 (fun _ h => h) (Nat.le_of_ble_eq_true rfl) (Or.inl rfl) rfl rfl dJ3_init_2_48 ?_
  refine ro_iload_n F dJ3_init_2_51 3 rfl ?_
  refine ro_if_ne (tgt := 60) F dJ3_init_2_52 (by decide) (fun z => absurd rfl z) (fun _ => ?_)
  refine ro_aload_n F dJ3_init_2_55 0 rfl ?_
  refine ro_null F dJ3_init_2_56 ?_
  refine po_put F F.k.1 hA in_X7 tyX7 tyX7_ok nmX7 (F.k.c rfl) t _ 2 (by decide) qJ3_24 (fun _ h => h) (Nat.le_of_ble_eq_true rfl) (Or.inl rfl) rfl rfl dJ3_init_2_57 ?_
  exact hret _ _ _ _ _ (Nat.le_refl _) (Nat.le_refl _) dJ3_init_2_60 ⟨rfl, rfl⟩
set_option maxHeartbeats 4000000 in
theorem metJ4_init : Cn l yJ4_init (ws_ yJ4_init cJ4_init 5 none) 3 0 0 [.ref t, .null, .null, .int (nI 0), .int (nI 0)] (PicO x) (KC x) (hx_A x) (w, t, 7, tnF 0) (fun rv_ w_ => rv_ = none ∧ w_ = (w, t, 7, tnF 0)) := by
  refine cn_vI (own := RJ4) rfl (Nat.le_of_ble_eq_true rfl) rfl (fun g hgl hA hnm F hret => ?_)
  refine Wd.eql (lv' := [(0, .ref t), (1, .null), (2, .null), (3, .int (nI 0)), (4, .int (nI 0))]) rfl ?_
  refine ro_aload_n F dJ4_init_0 0 rfl ?_
  refine ro_aload_nN F dJ4_init_1 1 rfl ?_
  refine ro_aload_nN F dJ4_init_2 2 rfl ?_
  refine ro_iload_n F dJ4_init_3 3 rfl ?_
  refine ro_iload F dJ4_init_4 4 rfl ?_
  refine ca_I (N := 4) (As := [.null, .null, .int (nI 0), .int (nI 0)]) (rest := []) (by rw [hA]; exact KC_st x) F (fun q hq => by rw [hA]; exact hq) (metJ3_init_2 (gx_l g) x w t) q417 q90 q415 q416 rfl (by decide +kernel) rfl (by decide) (by decide) (Nat.le_refl _) (Nat.le_refl _) rfl (Nat.le_of_ble_eq_true rfl) dJ4_init_6 (fun v w' hp => ?_)
  rw [hp.1, hp.2]
  exact hret _ _ _ _ _ (Nat.le_refl _) (Nat.le_refl _) dJ4_init_9 ⟨rfl, rfl⟩
set_option maxHeartbeats 4000000 in
theorem metX7_init (v : Int32) : Cn l yX7_init (ws_ yX7_init cX7_init 2 none) 4 0 0 [.ref t, .int v] (PicO x) (KC x) (hx_A x) (w, t, 7, tnF 0) (fun rv_ w_ => rv_ = none ∧ w_ = (w, t, 7, tnF v)) := by
  refine cn_vI (own := RX7) rfl (Nat.le_of_ble_eq_true rfl) rfl (fun g hgl hA hnm F hret => ?_)
  refine Wd.eql (lv' := [(0, .ref t), (1, .int v)]) rfl ?_
  refine ro_aload_n F dX7_init_0 0 rfl ?_
  refine ro_null F dX7_init_1 ?_
  refine ro_null F dX7_init_2 ?_
  refine ro_iconst (v := nI 0) F dX7_init_3 (by decide) ?_
  refine ro_iconst (v := nI 0) F dX7_init_4 (by decide) ?_
  refine ca_I (N := 4) (As := [.null, .null, .int (nI 0), .int (nI 0)]) (rest := []) (by rw [hA]; exact KC_st x) F (fun q hq => by rw [hA]; exact hq) (metJ4_init (gx_l g) x w t) q414 q91 q412 q413 rfl (by decide +kernel) rfl (by decide) (by decide) (Nat.le_refl _) (Nat.le_refl _) rfl (Nat.le_of_ble_eq_true rfl) dX7_init_5 (fun v w' hp => ?_)
  rw [hp.1, hp.2]
  refine ro_aload_n F dX7_init_8 0 rfl ?_
  refine ro_iload_n F dX7_init_9 1 rfl ?_
  refine po_put F F.k.1 hA in_X7 tyX7 tyX7_ok nmX7 (F.k.c rfl) t _ 6 (by decide) qX7_7 (fun _ h => h) (Nat.le_of_ble_eq_true rfl) (Or.inr ⟨rfl, hnm, rfl⟩) rfl rfl dX7_init_10 ?_
  exact hret _ _ _ _ _ (Nat.le_refl _) (Nat.le_refl _) dX7_init_13 ⟨rfl, rfl⟩
end TN
section SV
variable (l : Launch) (x : Hx) (ad : Nat → Nat) (ds : Nat → Option Lay) (cm : Mem)
set_option maxHeartbeats 4000000 in
theorem metX8_init (p q : Nat) (hp : p % 64 < 60) (hL : ds p = some (.inl (5, [none, some none, none]))) (hq : ∃ L, ds q = some L) (u v : Int32) : Cn l yX8_init (ws_ yX8_init cX8_init 4 none) 2 0 0 [.ref (ad p), .int u, .ref (ad q), .int v] (PicH x) (KC x) (hx_A x) (ad, ds, cm) (fun rv_ w_ => rv_ = none ∧ w_ = (ad, up1 ds p (some (.inl (5, [none, some (some q), none]))), m2 (m2 cm p 0 u) p 2 v)) := by
  refine cn_vI (own := RX8) rfl (Nat.le_of_ble_eq_true rfl) rfl (fun g hgl hA hnm F hret => ?_)
  refine Wd.eql (lv' := [(0, .ref (ad p)), (1, .int u), (2, .ref (ad q)), (3, .int v)]) rfl ?_
  refine ro_aload_n F dX8_init_0 0 rfl ?_
  refine ro_obj F q578 (by decide) (Nat.le_of_ble_eq_true rfl) dX8_init_1 ?_
  refine ro_aload_n F dX8_init_4 0 rfl ?_
  refine ro_iload_n F dX8_init_5 1 rfl ?_
  refine hh_put F F.k.1 hA in_X8 tyX8 tyX8_ok nmX8 (F.k.c rfl) p hL hp 0 (by decide) qX8_7 (fun _ h => h) (Nat.le_of_ble_eq_true rfl) rfl rfl rfl rfl dX8_init_6 ?_
  refine ro_aload_n F dX8_init_9 0 rfl ?_
  refine ro_aload_n F dX8_init_10 2 rfl ?_
  refine hh_putG F F.k.1 hA in_X8 tyX8 tyX8_ok nmX8 (F.k.c rfl) p hL hp 1 (by decide) qX8_13 (fun _ h => h) (Nat.le_of_ble_eq_true rfl) (Or.inr ⟨rfl, hnm, rfl⟩) (some (some q)) _ (fun _ _ _ => rfl) (fun r hr => by cases hr; exact hq) rfl rfl rfl dX8_init_11 ?_
  refine ro_aload_n F dX8_init_14 0 rfl ?_
  refine ro_iload_n F dX8_init_15 3 rfl ?_
  refine hh_putG F F.k.1 hA in_X8 tyX8 tyX8_ok nmX8 (F.k.c rfl) p (up1_s _ _ _) hp 2 (by decide) qX8_17 (fun _ h => h) (Nat.le_of_ble_eq_true rfl) (Or.inr ⟨rfl, hnm, rfl⟩) none (m2 (m2 cm p 0 u) p 2 v) (fun a b h => by simp [m2]; intro h1 h2; exact absurd ⟨h1, h2⟩ h) (fun r hr => by cases hr) (congrArg Value.int (m2_self _ _ _ _)) rfl rfl dX8_init_16 ?_
  rw [up1_up1]
  exact hret _ _ _ _ _ (Nat.le_refl _) (Nat.le_refl _) dX8_init_19 ⟨rfl, rfl⟩
set_option maxHeartbeats 4000000 in
theorem metX4_init (p : Nat) (hp : p % 64 < 60) (hL : ds p = some (.inl (4, [none, none]))) (u v : Int32) : Cn l yX4_init (ws_ yX4_init cX4_init 3 none) 2 0 0 [.ref (ad p), .int u, .int v] (PicH x) (KC x) (hx_A x) (ad, ds, cm) (fun rv_ w_ => rv_ = none ∧ w_ = (ad, ds, m2 (m2 cm p 0 u) p 1 v)) := by
  refine cn_vI (own := RX4) rfl (Nat.le_of_ble_eq_true rfl) rfl (fun g hgl hA hnm F hret => ?_)
  refine Wd.eql (lv' := [(0, .ref (ad p)), (1, .int u), (2, .int v)]) rfl ?_
  refine ro_aload_n F dX4_init_0 0 rfl ?_
  refine ro_obj F q202 (by decide) (Nat.le_of_ble_eq_true rfl) dX4_init_1 ?_
  refine ro_aload_n F dX4_init_4 0 rfl ?_
  refine ro_iload_n F dX4_init_5 1 rfl ?_
  refine hh_putG F F.k.1 hA in_X4 tyX4 tyX4_ok nmX4 (F.k.c rfl) p hL hp 0 (by decide) qX4_7 (fun _ h => h) (Nat.le_of_ble_eq_true rfl) (Or.inr ⟨rfl, hnm, rfl⟩) none (m2 cm p 0 u) (fun a b h => by simp [m2]; intro h1 h2; exact absurd ⟨h1, h2⟩ h) (fun r hr => by cases hr) (congrArg Value.int (m2_self _ _ _ _)) rfl rfl dX4_init_6 ?_
  rw [show (([none, none] : List (Option (Option Nat))).set 0 none) = [none, none] from rfl, up1_id hL]
  refine ro_aload_n F dX4_init_9 0 rfl ?_
  refine ro_iload_n F dX4_init_10 2 rfl ?_
  refine hh_put F F.k.1 hA in_X4 tyX4 tyX4_ok nmX4 (F.k.c rfl) p hL hp 1 (by decide) qX4_13 (fun _ h => h) (Nat.le_of_ble_eq_true rfl) rfl rfl rfl rfl dX4_init_11 ?_
  exact hret _ _ _ _ _ (Nat.le_refl _) (Nat.le_refl _) dX4_init_14 ⟨rfl, rfl⟩
end SV
