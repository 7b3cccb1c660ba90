/-! NEW PLACES, LAYOUTS THAT CHANGE, PLACES FORGOTTEN -/
def up1 {β : Type} (f : Nat → β) (p : Nat) (v : β) : Nat → β := fun q => if q = p then v else f q
theorem up1_s {β : Type} (f : Nat → β) (p : Nat) (v : β) : up1 f p v p = v := if_pos rfl
theorem up1_n {β : Type} (f : Nat → β) {p q : Nat} (v : β) (h : q ≠ p) : up1 f p v q = f q := if_neg h
/-- ints of the place p: zeroes -/
def z0 (cm : Mem) (p : Nat) : Mem := fun q j => if q = p then 0 else cm q j
theorem z0_s (cm : Mem) (p j : Nat) : z0 cm p p j = 0 := if_pos rfl
theorem z0_n (cm : Mem) {p q : Nat} (h : q ≠ p) : z0 cm p q = cm q := by funext j; exact if_neg h
theorem m2_pf (m : Mem) {p f i : Nat} (v : Int32) (q : Nat) (h : q ≠ p) : m2 m p i v q = m q := by funext j; simp [m2, h]
theorem hw_cell_ad {x : Hx} {ad ad' : Nat → Nat} {cm : Mem} {p : Nat} {L : Lay} (h : ∀ r, hw_ref L r → ad' r = ad r) : hw_cell x ad' cm p L = hw_cell x ad cm p L := by
  rcases L with ⟨ci, fl⟩ | ⟨t, n, g | g⟩
  · show (Sum.inr (ci, hw_fs ad' cm p fl) : va_E) = Sum.inr (ci, hw_fs ad cm p fl)
    congr 2
    unfold hw_fs
    apply List.map_congr_left
    intro k hk
    unfold hw_f
    have hk' : k < fl.length := List.mem_range.mp hk
    cases e : fl.getD k none with
    | none => rfl
    | some d =>
      cases d with
      | none => rfl
      | some q =>
        have hm : some (some q) ∈ fl := by
          have h1 : fl[k]? = some (some (some q)) := by
            rw [List.getD_eq_getElem?_getD] at e
            rw [List.getElem?_eq_getElem hk'] at e ⊢
            exact congrArg some e
          exact List.mem_of_getElem? h1
        show Value.ref (ad' q) = Value.ref (ad q)
        rw [h q hm]
  · rfl
  · show (Sum.inl (hx_ty x t, n, Sum.inr (Sum.inr (Sum.inr (Sum.inr (fun j => (g j).map ad'))))) : va_E) = Sum.inl (hx_ty x t, n, Sum.inr (Sum.inr (Sum.inr (Sum.inr (fun j => (g j).map ad)))))
    have e2 : (fun j => (g j).map ad') = (fun j => (g j).map ad) := by
      funext j
      cases e : g j with
      | none => rfl
      | some q =>
        show some (ad' q) = some (ad q)
        rw [h q ⟨j, e⟩]
    rw [e2]
theorem PicH.new {x : Hx} {ad : Nat → Nat} {ds : Nat → Option Lay} {cm cm' : Mem} {H H1 : Heap} (hP : PicH x (ad, ds, cm) H) {p : Nat} {L : Lay} (hp : p % 64 < 60) (hn : ds p = none) (hz : H1.size = H.size + 1) (oq : ∀ q : Nat, q < H.size → H1[q]? = H[q]?) (hA : hx_A x H.size) (hc : ∀ q, q ≠ p → cm' q = cm q) (hr : ∀ r, hw_ref L r → r = p ∨ ∃ L', ds r = some L')
    (he : va_at (hx_D x) (hx_cl x) (H.size, hw_cell x (up1 ad p H.size) cm' p L) H1) : PicH x (up1 ad p H.size, up1 ds p (some L), cm') H1 := by
  have hlt : ∀ q L', ds q = some L' → ad q < H.size := fun q L' hq => (hP.1 q L' hq).lt
  have hne : ∀ q L', ds q = some L' → q ≠ p := fun q L' hq e => by rw [e, hn] at hq; cases hq
  refine ⟨fun q L' hq => ?_, fun q r L1 L2 h1 h2 e => ?_, fun q L' hq hq6 => ?_, ?_, fun q r L' hq hr' => ?_, fun q hq => ?_⟩
  · dsimp only at hq ⊢
    by_cases e : q = p
    · subst e
      rw [up1_s] at hq
      cases hq
      rw [up1_s]
      exact he
    · rw [up1_n _ _ e] at hq
      rw [up1_n _ _ e, hw_cell_ad (ad := ad) (fun r hr' => ?_), hw_cell_cm (hc q e)]
      · exact (hP.1 q L' hq).kept (oq _ (hlt q L' hq))
      · obtain ⟨L2, h2⟩ := hP.2.2.2.2.1 q r L' hq hr'
        exact up1_n _ _ (hne r L2 h2)
  · dsimp only at h1 h2 e
    by_cases e1 : q = p
    · by_cases e2 : r = p
      · omega
      · rw [up1_n _ _ e2] at h2
        rw [e1, up1_s, up1_n _ _ e2] at e
        exact absurd (hlt r L2 h2) (by omega)
    · rw [up1_n _ _ e1] at h1
      by_cases e2 : r = p
      · rw [e2, up1_s, up1_n _ _ e1] at e
        exact absurd (hlt q L1 h1) (by omega)
      · rw [up1_n _ _ e2] at h2
        rw [up1_n _ _ e1, up1_n _ _ e2] at e
        exact hP.2.1 q r L1 L2 h1 h2 e
  · dsimp only at hq ⊢
    by_cases e : q = p
    · rw [e, up1_s]; exact hA
    · rw [up1_n _ _ e] at hq ⊢
      exact hP.2.2.1 q L' hq hq6
  · exact Nat.le_trans hP.2.2.2.1 (by omega)
  · dsimp only at hq ⊢
    by_cases e2 : r = p
    · exact ⟨L, by rw [e2, up1_s]⟩
    · by_cases e : q = p
      · rw [e, up1_s] at hq
        cases hq
        rcases hr r hr' with h | ⟨L2, h⟩
        · exact absurd h e2
        · exact ⟨L2, by rw [up1_n _ _ e2]; exact h⟩
      · rw [up1_n _ _ e] at hq
        obtain ⟨L2, h⟩ := hP.2.2.2.2.1 q r L' hq hr'
        exact ⟨L2, by rw [up1_n _ _ e2]; exact h⟩
  · dsimp only
    rw [up1_n _ _ (by omega)]
    exact hP.2.2.2.2.2 q hq
theorem PicH.setL {x : Hx} {ad : Nat → Nat} {ds : Nat → Option Lay} {cm cm' : Mem} {H H1 : Heap} (hP : PicH x (ad, ds, cm) H) {p : Nat} {L L' : Lay} (hL : ds p = some L) (hz : H1.size = H.size) (oq : ∀ q : Nat, q ≠ ad p → H1[q]? = H[q]?) (hc : ∀ q, q ≠ p → cm' q = cm q) (hr : ∀ r, hw_ref L' r → ∃ L2, ds r = some L2)
    (he : va_at (hx_D x) (hx_cl x) (ad p, hw_cell x ad cm' p L') H1) : PicH x (ad, up1 ds p (some L'), cm') H1 := by
  have un : ∀ q L1, up1 ds p (some L') q = some L1 → ∃ L2, ds q = some L2 := fun q L1 h => by
    by_cases e : q = p
    · exact ⟨L, by rw [e]; exact hL⟩
    · rw [up1_n _ _ e] at h; exact ⟨L1, h⟩
  have nu : ∀ q L1, ds q = some L1 → ∃ L2, up1 ds p (some L') q = some L2 := fun q L1 h => by
    by_cases e : q = p
    · exact ⟨L', by rw [e, up1_s]⟩
    · exact ⟨L1, by rw [up1_n _ _ e]; exact h⟩
  refine ⟨fun q L1 hq => ?_, fun q r L1 L2 h1 h2 e => ?_, fun q L1 hq hq6 => ?_, by rw [hz]; exact hP.2.2.2.1, fun q r L1 hq hr' => ?_, hP.2.2.2.2.2⟩
  · dsimp only at hq ⊢
    by_cases e : q = p
    · subst e
      rw [up1_s] at hq
      cases hq
      exact he
    · rw [up1_n _ _ e] at hq
      rw [hw_cell_cm (hc q e)]
      exact (hP.1 q L1 hq).kept (oq _ (fun z => e (hP.2.1 q p L1 L hq hL z)))
  · obtain ⟨L3, h3⟩ := un q L1 h1
    obtain ⟨L4, h4⟩ := un r L2 h2
    exact hP.2.1 q r L3 L4 h3 h4 e
  · obtain ⟨L3, h3⟩ := un q L1 hq
    exact hP.2.2.1 q L3 h3 hq6
  · dsimp only at hq ⊢
    by_cases e : q = p
    · rw [e, up1_s] at hq
      cases hq
      obtain ⟨L2, h2⟩ := hr r hr'
      exact nu r L2 h2
    · rw [up1_n _ _ e] at hq
      obtain ⟨L2, h2⟩ := hP.2.2.2.2.1 q r L1 hq hr'
      exact nu r L2 h2
/-- fewer places, told otherwise where nothing lies -/
theorem PicH.less {x : Hx} {ad ad' : Nat → Nat} {ds ds' : Nat → Option Lay} {cm cm' : Mem} {H : Heap} (hP : PicH x (ad, ds, cm) H) (hd : ∀ p L, ds' p = some L → ds p = some L) (ha : ∀ p L, ds' p = some L → ad' p = ad p) (hc : ∀ p L, ds' p = some L → cm' p = cm p) (hs : ∀ p, 60 ≤ p % 64 → ad' p = ad p) (hr : ∀ p r L, ds' p = some L → hw_ref L r → ∃ L', ds' r = some L') : PicH x (ad', ds', cm') H := by
  refine ⟨fun q L hq => ?_, fun q r L1 L2 h1 h2 e => ?_, fun q L hq h6 => ?_, hP.2.2.2.1, hr, fun q hq => ?_⟩
  · dsimp only at hq ⊢
    rw [ha q L hq, hw_cell_cm (hc q L hq), hw_cell_ad (ad := ad) (fun r h => by obtain ⟨L', h'⟩ := hr q r L hq h; exact ha r L' h')]
    exact hP.1 q L (hd q L hq)
  · dsimp only at h1 h2 e
    rw [ha q L1 h1, ha r L2 h2] at e
    exact hP.2.1 q r L1 L2 (hd q L1 h1) (hd r L2 h2) e
  · dsimp only at hq ⊢
    rw [ha q L hq]
    exact hP.2.2.1 q L (hd q L hq) h6
  · dsimp only
    rw [hs q hq]
    exact hP.2.2.2.2.2 q hq
theorem Wd.pic {α : Type} {Pic : α → Heap → Prop} {g : Gx} {nL : Nat} {w w' : α} {k n pc : Nat} {lv : Lv} {st : List Value} (h : ∀ H, Pic w H → Pic w' H) (kk : Wd Pic g nL w' k n pc lv st) : Wd Pic g nL w k n pc lv st := fun H locs ls hP hS hl => kk H locs ls (h H hP) hS hl
section HG
variable {x : Hx} {g : Gx} {cc : ByteArray} {nL : Nat} {own : String} {d mc ms : Nat} {K : State → Prop} {ad : Nat → Nat} {ds : Nat → Option Lay} {cm : Mem} {k n pc : Nat} {lv : Lv} {rest : List Value}
/-- new: an object at the place p -/
theorem hh_new (F : Fx g cc nL own d mc ms K) (hK : KH0 x (gx_s g)) {C : String} {T : u_T} {N ci index : Nat} (hin : ∀ w ∈ u_ws C T N, w ∈ lw_all) (ty : Nat → FieldType) (hty : ∀ k, k < N → parseFieldDescriptor (T k).2.2.1 = some (ty k)) (hc : (hx_cl x)[ci]? = some (C, T, N)) (hcl : Cond.classLink own index C ∈ lw_all) (hins : Cond.instantiable C N ∈ lw_all) (hini : Cond.initialized C ∈ lw_all) (p : Nat) (hp : p % 64 < 60) (hn : ds p = none) (fl : List (Option (Option Nat))) (hfl : ∀ r, ¬ some (some r) ∈ fl) (hfs : ∀ j, j < N → defaultValue (ty j) = vp_V (hw_fs ad (z0 cm p) p fl) j) (hk : k + 1 ≤ mc) (hs : n + N ≤ ms) (hd : decode cc pc = .ok (.new index, 3))
    (kk : ∀ h : Nat, Wd (PicH x) g nL (up1 ad p h, up1 ds p (some (.inl (ci, fl))), z0 cm p) (k + 1) (n + N) (pc + 3) lv (.ref (up1 ad p h p) :: rest)) : Wd (PicH x) g nL (ad, ds, cm) k n pc lv rest := by
  intro H locs ls hP hS hl
  have hKn := hK.1 ci _ hc
  refine W.newcK F.x F.b F.own (F.ts _ hcl) (F.ts _ hins) (F.ts _ hini) rfl hd (Nat.le_trans hk F.ce) (Nat.le_trans hs F.sl) hKn.2.1 rfl fun H1 kC hkC e1 z1 o1 => ?_
  have h1 := kk H.size H1 locs ls (hP.new hp hn z1 o1 (hK.2.2 _ hP.2.2.2.1) (fun q hq => z0_n cm hq) (fun r hr => absurd hr (hfl r)) ?_) ⟨Nat.le_trans hS.1 (by omega), fun q g1 g2 => (o1 q (Nat.lt_of_lt_of_le g1 hS.1)).trans (hS.2.1 q g1 g2), hS.2.2⟩ hl
  · rw [up1_s] at h1
    exact h1
  · rw [hw_cell_ad (ad := ad) (L := .inl (ci, fl)) (fun r hr => absurd hr (hfl r))]
    exact ⟨_, hc, (u_born ty F.ts hin hKn hkC e1 hty).to hfs⟩
/-- newarray: an array of ints (of a small type) at the place p -/
theorem hh_newa (F : Fx g cc nL own d mc ms K) (hK : KH0 x (gx_s g)) {atype : ArrayType} (t : Nat) (ht : t < 4) (hty : newarray.typeOf atype = hx_T t) (harr : Cond.arrayClass (newarray.typeOf atype) ∈ lw_all) (p : Nat) (hp : p % 64 < 60) (hn : ds p = none) {N : Nat} (hN : N ≤ 1000) (hk : k + 1 ≤ mc) (hs : n + N ≤ ms) (hd : decode cc pc = .ok (.newarray atype, 2))
    (kk : ∀ h : Nat, Wd (PicH x) g nL (up1 ad p h, up1 ds p (some (.inr (t, N, none))), z0 cm p) (k + 1) (n + N) (pc + 2) lv (.ref (up1 ad p h p) :: rest)) : Wd (PicH x) g nL (ad, ds, cm) k n pc lv (.int (nI N) :: rest) := by
  intro H locs ls hP hS hl
  have hcb : componentBytes (newarray.typeOf atype) ≤ 8 := by cases atype <;> decide
  have hpr := (hK.2.1 t (by omega)).2
  refine va_newaK F.x F.b (F.ts _ harr) rfl hd rfl (nI_pos (by omega)) (nI_clamp (by omega)) (Nat.le_trans (Nat.mul_le_mul hN hcb) (by decide)) (Nat.le_trans hk F.ce) (Nat.le_trans hs F.sl) rfl fun H1 cA e1 z1 o1 hAr hNm => ?_
  have hcA : hx_ty x t = cA := by
    rw [hty] at hNm
    have h2 : (gx_s g).vm.findClass ("[" ++ (hx_T t).toString) = some (hx_ty x t) := by
      rcases (by omega : t = 0 ∨ t = 1 ∨ t = 2 ∨ t = 3) with e | e | e | e <;> subst e <;> exact hpr
    exact Option.some.inj (h2.symm.trans hNm)
  have hdv : defaultValue (newarray.typeOf atype) = .int 0 := by
    rw [hty]
    rcases (by omega : t = 0 ∨ t = 1 ∨ t = 2 ∨ t = 3) with e | e | e | e <;> subst e <;> rfl
  have h1 := kk H.size H1 locs ls (hP.new hp hn z1 o1 (hK.2.2 _ hP.2.2.2.1) (fun q hq => z0_n cm hq) (fun r hr => hr.elim) ?_) ⟨Nat.le_trans hS.1 (by omega), fun q g1 g2 => (o1 q (Nat.lt_of_lt_of_le g1 hS.1)).trans (hS.2.1 q g1 g2), hS.2.2⟩ hl
  · rw [up1_s] at h1
    exact h1
  · show H1[H.size]? = some (vp_cell (hx_ty x t) (N, .inl (z0 cm p p)))
    rw [e1, hdv, hcA, vp_cell_i]
    congr 2
    funext j
    rw [z0_s]
/-- anewarray: an array of nulls at the place p -/
theorem hh_newq (F : Fx g cc nL own d mc ms K) (hK : KH0 x (gx_s g)) {C : String} {index : Nat} (t : Nat) (ht : t < 8) (hty : hx_T t = .object C) (hcl : Cond.classLink own index C ∈ lw_all) (hov : va_AO C (gx_s g)) (p : Nat) (hp : p % 64 < 60) (hn : ds p = none) {N : Nat} (hN : N ≤ 1000) (hk : k + 1 ≤ mc) (hs : n + N ≤ ms) (hd : decode cc pc = .ok (.anewarray index, 3))
    (kk : ∀ h : Nat, Wd (PicH x) g nL (up1 ad p h, up1 ds p (some (.inr (t, N, some (fun _ => none)))), cm) (k + 1) (n + N) (pc + 3) lv (.ref (up1 ad p h p) :: rest)) : Wd (PicH x) g nL (ad, ds, cm) k n pc lv (.int (nI N) :: rest) := by
  intro H locs ls hP hS hl
  have hcl2 : (nI N).toNatClampNeg = N := nI_clamp (by omega)
  refine W.anew F.x F.b F.own (F.ts _ hcl) (va_AO.use hov) rfl hd rfl (nI_pos (by omega)) (by rw [hcl2]; omega) (Nat.le_trans hk F.ce) (by rw [hcl2]; exact Nat.le_trans hs F.sl) fun cA kA comp f1 f2 f3 f4 => ?_
  rw [hcl2]
  generalize hH1 : H.push ({ cls := cA, slots := Array.replicate N .null, vm := .none } : Cell) = H1
  have z1 : H1.size = H.size + 1 := by rw [← hH1, Array.size_push]
  have e1 : H1[H.size]? = some (arrV cA N (fun _ => .null)) := by rw [← hH1, Array.getElem?_push_size, ← arrV_new]
  have o1 : ∀ q : Nat, q < H.size → H1[q]? = H[q]? := fun q hq => by rw [← hH1, Array.getElem?_push, if_neg (Nat.ne_of_lt hq)]
  have hcA : hx_ty x t = cA := by
    have hpr := (hK.2.1 t ht).2
    rw [hty] at hpr
    obtain ⟨_, _, -, -, -, h4⟩ := hpr
    exact Option.some.inj (h4.symm.trans f1)
  have h1 := kk H.size H1 locs ls (hP.new hp hn z1 o1 (hK.2.2 _ hP.2.2.2.1) (fun q hq => rfl) (fun r hr => by obtain ⟨j, hj⟩ := hr; cases hj) ?_) ⟨Nat.le_trans hS.1 (by omega), fun q g1 g2 => (o1 q (Nat.lt_of_lt_of_le g1 hS.1)).trans (hS.2.1 q g1 g2), hS.2.2⟩ hl
  · rw [up1_s] at h1
    exact h1
  · show H1[H.size]? = some (vp_cell (hx_ty x t) (N, .inr (.inr (.inr (.inr (fun _ => none))))))
    rw [e1, hcA, vp_cell_q]
    rfl
theorem hw_fs_put (ad : Nat → Nat) (cm cm' : Mem) (p : Nat) (fl : List (Option (Option Nat))) {f : Nat} (h : f < fl.length) (dd : Option (Option Nat)) (hc : ∀ j, j ≠ f → cm' p j = cm p j) : (hw_fs ad cm p fl).set f (hw_f ad cm' p f dd) = hw_fs ad cm' p (fl.set f dd) := by
  apply List.ext_getElem?
  intro j
  by_cases hj : j < fl.length
  · rw [hw_fs_at ad _ p (fl.set f dd) (by rw [List.length_set]; exact hj)]
    by_cases e : j = f
    · subst e
      rw [List.getElem?_set_self (by rw [hw_fs_len]; exact h)]
      congr 2
      simp [List.getD_eq_getElem?_getD, h]
    · rw [List.getElem?_set_ne (Ne.symm e), hw_fs_at ad cm p fl hj]
      have e2 : (fl.set f dd).getD j none = fl.getD j none := by simp [List.getD_eq_getElem?_getD, List.getElem?_set_ne (Ne.symm e)]
      rw [e2]
      unfold hw_f
      rw [hc j e]
  · rw [List.getElem?_eq_none (by rw [List.length_set, hw_fs_len]; omega), List.getElem?_eq_none (by rw [hw_fs_len, List.length_set]; omega)]
/-- a store into a field: a reference, null, or an int; final: in the constructor of its class -/
theorem hh_putG (F : Fx g cc nL own d mc ms K) (hK : KH0 x (gx_s g)) (hgA : gx_A g = hx_A x) {ref C : String} {T : u_T} {N ci index : Nat} (hin : ∀ w ∈ u_ws C T N, w ∈ lw_all) (ty : Nat → FieldType) (hty : ∀ k, k < N → parseFieldDescriptor (T k).2.2.1 = some (ty k)) (hnm : ∀ a, a < N → ∀ b, b < N → a ≠ b → (T a).2.1 ≠ (T b).2.1) (hc : (hx_cl x)[ci]? = some (C, T, N)) (p : Nat) {fl : List (Option (Option Nat))} (hL : ds p = some (.inl (ci, fl))) (hp : p % 64 < 60) (f : Nat) (hf : f < N) (hlk : Cond.fieldLink own index ref (T f).2.1 (T f).2.2.1 ∈ lw_all) (hsame : ∀ z, (gx_s g).fieldFound? (T f).1 (T f).2.1 (T f).2.2.1 = some z → (gx_s g).fieldFound? ref (T f).2.1 (T f).2.2.1 = some z) (hfl : f < fl.length) (hfin : (T f).2.2.2 = false ∨ ((T f).2.2.2 = true ∧ (gx_me g).name = "<init>" ∧ (T f).1 = own)) (dd : Option (Option Nat)) (cm' : Mem) (hcm : ∀ q j, ¬ (q = p ∧ j = f) → cm' q j = cm q j) (hr : ∀ r, dd = some (some r) → ∃ L, ds r = some L) {v : Value} (hv : hw_f ad cm' p f dd = v) (hn : narrow (ty f) v = v) (hfit : fits (ty f) v = true) (hd : decode cc pc = .ok (.putfield index, 3))
    (kk : Wd (PicH x) g nL (ad, up1 ds p (some (.inl (ci, fl.set f dd))), cm') k n (pc + 3) lv rest) : Wd (PicH x) g nL (ad, ds, cm) k n pc lv (v :: .ref (ad p) :: rest) := by
  intro H locs ls hP hS hl
  have hap := va_apart (own := own) F.ts hin ty hty hnm hK.K hc
  obtain ⟨r, h1, cell, q1, q2, q3, q4⟩ := hP.1 p _ hL
  have hr0 : r = (C, T, N) := Option.some.inj (h1.symm.trans hc)
  subst hr0
  obtain ⟨hS1, hfc, kC, hkC, hkind⟩ := hK.1 ci _ hc
  obtain ⟨cf, kf, fi, fd, hi1, hsl⟩ := hS1 f hf
  have hlay := F.ts _ (hin _ (u_in_lay hf))
  have hst := (u_facts hfc hkC (u_lays F.ts hin hf) hi1).1
  have fin : ∀ (H' : Heap) (locs' : List Loc), H'[ad p]? = some (cell.setSlot fd.slot v) → H'.size = H.size → (∀ q, q ≠ ad p → H'[q]? = H[q]?) → locs' = locs ++ [⟨ad p, fd.slot⟩] → Wg g H' locs' k n (F0 (gx_m g) (pc + 3) ls rest) := by
    intro H' locs' e1 e2 e3 e4
    subst e4
    rw [hsl] at e1 ⊢
    refine kk H' _ ls (hP.setL hL e2 e3 (fun q hq => by funext j; exact hcm q j (fun z => hq z.1)) (fun r hr' => ?_) ?_) (hS.put e2 e3 (by rw [hgA]; exact hP.2.2.1 p _ hL hp)) hl
    · have hm : some (some r) ∈ fl.set f dd := hr'
      rcases List.mem_or_eq_of_mem_set hm with h | h
      · exact hP.2.2.2.2.1 p r _ hL h
      · exact hr r h.symm
    · refine ⟨_, hc, t_OB.to (V := updV (vp_V (hw_fs ad cm p fl)) f v) ⟨_, e1, q2, q3, t_set q4 hap hf _⟩ (fun j _ => ?_)⟩
      rw [vp_updV_set (by rw [hw_fs_len]; exact hfl)]
      show vp_V ((hw_fs ad cm p fl).set f v) j = vp_V (hw_fs ad cm' p (fl.set f dd)) j
      rw [← hv, hw_fs_put ad cm cm' p fl hfl dd (fun j hj => hcm p j (fun z => hj z.2))]
  rcases hfin with hfin | ⟨hfin, hnm2, hdecl⟩
  · unfold u_lay at hlay
    rw [if_neg (by rw [hfin]; decide)] at hlay
    have h6 := u_store hfc hkC hkind hlay hi1 (hty f hf) hn hfit
    exact W.putK F.x F.b (f := fd) ⟨F.own, F.ts _ hlk, ⟨_, _, _, hsame _ hi1⟩, hst⟩ (by rw [q2]; exact h6) q1 q3 (by rw [hsl]; exact k2_hasslot (q4 f hf)) rfl rfl hd fun H' e1 e2 e3 => fin H' _ e1 e2 e3 rfl
  · unfold u_lay at hlay
    rw [if_pos hfin] at hlay
    have hcf : (gx_m g).cls = cf := by
      obtain ⟨_, _, c', _, _, _, -, -, hf', -, -, -, hown2, -⟩ := Cond.laysFinal_spec hlay
      have e1 : c' = cf := by have := hi1.symm.trans hf'; simp at this; exact this.1.symm
      rw [hdecl] at hown2
      rw [← e1]; exact Option.some.inj (F.own.symm.trans hown2)
    have h6 := u_fits hfc hkC hkind (Or.inr hlay) hi1 (hty f hf) hn hfit
    exact W.putFinK F.x F.b F.own (F.ts _ hlk) (hsame _ hi1) hst hcf hnm2 (by rw [q2]; exact h6) q1 q3 (by rw [hsl]; exact k2_hasslot (q4 f hf)) rfl rfl hd fun H' e1 e2 e3 => fin H' _ e1 e2 e3 rfl
theorem hh_alen (F : Fx g cc nL own d mc ms K) (hK : KH0 x (gx_s g)) (p t N : Nat) {o : Option (Nat → Option Nat)} (ht : t < 8) (hL : ds p = some (.inr (t, N, o))) (hd : decode cc pc = .ok (.arraylength, 1))
    (kk : Wd (PicH x) g nL (ad, ds, cm) k n (pc + 1) lv (.int (nI N) :: rest)) : Wd (PicH x) g nL (ad, ds, cm) k n pc lv (.ref (ad p) :: rest) := by
  intro H locs ls hP hS hl
  cases o with
  | none => exact W.alen (n := nI N) F.x F.b (hh_arr hP hL) ((hK.2.1 t ht).1 _ _) (by rw [arrV_size]; rfl) rfl rfl hd (kk H locs ls hP hS hl)
  | some gg => exact W.alen (n := nI N) F.x F.b (hh_arrR hP hL) ((hK.2.1 t ht).1 _ _) (by rw [arrV_size]; rfl) rfl rfl hd (kk H locs ls hP hS hl)
theorem hh_updR {H H1 : Heap} (hP : PicH x (ad, ds, cm) H) {p t N : Nat} {gg : Nat → Option Nat} (hL : ds p = some (.inr (t, N, some gg))) (i : Nat) (o : Option Nat) (hr : ∀ r, o = some r → ∃ L, ds r = some L) (hz : H1.size = H.size) (e : H1[ad p]? = some (arrV (hx_ty x t) N (updV (fun j => va_rf ((gg j).map ad)) i (va_rf (o.map ad))))) (oq : ∀ q : Nat, q ≠ ad p → H1[q]? = H[q]?) : PicH x (ad, up1 ds p (some (.inr (t, N, some (up1 gg i o)))), cm) H1 := by
  refine hP.setL hL hz oq (fun q hq => rfl) (fun r hr' => ?_) ?_
  · obtain ⟨j, hj⟩ := hr'
    by_cases e2 : j = i
    · rw [e2, up1_s] at hj
      exact hr r hj
    · rw [up1_n _ _ e2] at hj
      exact hP.2.2.2.2.1 p r _ hL ⟨j, hj⟩
  · show H1[ad p]? = some (vp_cell _ _)
    rw [e, vp_cell_q]
    congr 2
    funext q
    by_cases hq : q = i
    · subst hq; simp [updV, up1]
    · simp [updV, up1, hq]
/-- a reference into an array -/
theorem hh_stA (F : Fx g cc nL own d mc ms K) (hK : KH0 x (gx_s g)) (hgA : gx_A g = hx_A x) (p t N : Nat) {E : String} {gg : Nat → Option Nat} (hL : ds p = some (.inr (t, N, some gg))) (hp : p % 64 < 60) (ht : t < 8) (hty : hx_T t = .object E) (h2 : N < 2 ^ 31) {j q : Nat} (hj : j < N) (hq : ∃ L, ds q = some L) (hany : ∀ H, PicH x (ad, ds, cm) H → va_Any E (gx_s g) H (ad q)) (hd : decode cc pc = .ok (.aastore, 1))
    (kk : Wd (PicH x) g nL (ad, up1 ds p (some (.inr (t, N, some (up1 gg j (some q))))), cm) k n (pc + 1) lv rest) : Wd (PicH x) g nL (ad, ds, cm) k n pc lv (.ref (ad q) :: .int (nI j) :: .ref (ad p) :: rest) := by
  intro H locs ls hP hS hl
  have hcl2 : (nI j).toNatClampNeg = j := nI_clamp (by omega)
  obtain ⟨cellV, g1, g3, ⟨kC, hkC⟩, hasg⟩ := hany H hP
  have hpr := (hK.2.1 t ht).2
  rw [hty] at hpr
  obtain ⟨kA, comp, k1, k2, k3, -⟩ := hpr
  obtain ⟨kE, hkE, -⟩ := Vm.findClass_spec k3
  refine W.aast F.x F.b (hh_arrR hP hL) (fun q h => by cases h) (fun h => by cases h) k1 k2 rfl hkE ⟨nI_pos (by omega), by show _ < (arrV _ _ _).slots.size; rw [arrV_size, hcl2]; exact hj⟩ g1 (fun q h => by rw [h] at g3; cases g3) hkC (hasg _ k3) rfl rfl hd fun H1 e z oq => ?_
  refine kk H1 _ ls (hh_updR hP hL j (some q) (fun r hr => by cases hr; exact hq) z ?_ oq) (hS.put z oq (by rw [hgA]; exact hP.2.2.1 p _ hL hp)) hl
  rw [e, hcl2, arrV_store]
  rfl
/-- null into an array -/
theorem hh_stN (F : Fx g cc nL own d mc ms K) (hK : KH0 x (gx_s g)) (hgA : gx_A g = hx_A x) (p t N : Nat) {E : String} {gg : Nat → Option Nat} (hL : ds p = some (.inr (t, N, some gg))) (hp : p % 64 < 60) (ht : t < 8) (hty : hx_T t = .object E) (h2 : N < 2 ^ 31) {j : Nat} (hj : j < N) (hd : decode cc pc = .ok (.aastore, 1))
    (kk : Wd (PicH x) g nL (ad, up1 ds p (some (.inr (t, N, some (up1 gg j none)))), cm) k n (pc + 1) lv rest) : Wd (PicH x) g nL (ad, ds, cm) k n pc lv (.null :: .int (nI j) :: .ref (ad p) :: rest) := by
  intro H locs ls hP hS hl
  have hcl2 : (nI j).toNatClampNeg = j := nI_clamp (by omega)
  refine va_WaastN (C := E) F.x F.b (hh_arrR hP hL) (by rw [← hty]; exact (hK.2.1 t ht).1 N _) (fun h => by cases h) (by rw [arrV_size]; exact vp_in_nI hj h2) rfl rfl hd fun H1 e z oq => ?_
  refine kk H1 _ ls (hh_updR hP hL j none (fun r hr => by cases hr) z ?_ oq) (hS.put z oq (by rw [hgA]; exact hP.2.2.1 p _ hL hp)) hl
  rw [e, hcl2, arrV_store]
  rfl
end HG
