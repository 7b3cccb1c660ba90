/-! ROWS OVER THE HEAP BY PLACES -/
section HR
variable {x : Hx} {g : Gx} {cc : ByteArray} {nL : Nat} {own : String} {d mc ms : Nat} {K : State → Prop} {ad : Nat → Nat} {ds : Nat → Option Lay} {cm : Mem} {k n pc : Nat} {lv : Lv} {rest : List Value}
theorem hh_get (F : Fx g cc nL own d mc ms K) (hK : KH0 x (gx_s g)) {ref C : String} {T : u_T} {N ci index : Nat} (hin : ∀ w ∈ u_ws C T N, w ∈ lw_all) (hc : (hx_cl x)[ci]? = some (C, T, N)) (p : Nat) {fl : List (Option (Option Nat))} (hL : ds p = some (.inl (ci, fl))) (f : Nat) (hf : f < N) (hlk : Cond.fieldLink own index ref (T f).2.1 (T f).2.2.1 ∈ lw_all) (hsame : ∀ z, (gx_s g).fieldFound? (T f).1 (T f).2.1 (T f).2.2.1 = some z → (gx_s g).fieldFound? ref (T f).2.1 (T f).2.2.1 = some z) (hfl : f < fl.length) {v : Value} (hv : hw_f ad cm p f (fl.getD f none) = v) (hd : decode cc pc = .ok (.getfield index, 3))
    (kk : Wd (PicH x) g nL (ad, ds, cm) k n (pc + 3) lv (v :: rest)) : Wd (PicH x) g nL (ad, ds, cm) k n pc lv (.ref (ad p) :: rest) := by
  intro H locs ls hP hS hl
  exact va_get F.x F.b F.ts hin F.own hK.K (hw_one hP hL) 0 rfl hc f hf (F.ts _ hlk) hsame (by rw [hw_fs_at ad cm p fl hfl, hv]) hd (kk H locs ls hP hS hl)
theorem hh_getN (F : Fx g cc nL own d mc ms K) (hK : KH0 x (gx_s g)) {ref C host : String} {T : u_T} {N ci index : Nat} (hin : ∀ w ∈ u_ws C T N, w ∈ lw_all) (hc : (hx_cl x)[ci]? = some (C, T, N)) (p : Nat) {fl : List (Option (Option Nat))} (hL : ds p = some (.inl (ci, fl))) (f : Nat) (hf : f < N) (hlk : va_Nw (Cond.fieldLinkNest own index ref (T f).2.1 (T f).2.2.1 host) (gx_s g)) (hsame : ∀ z, (gx_s g).fieldFound? (T f).1 (T f).2.1 (T f).2.2.1 = some z → (gx_s g).fieldFound? ref (T f).2.1 (T f).2.2.1 = some z) (hfl : f < fl.length) {v : Value} (hv : hw_f ad cm p f (fl.getD f none) = v) (hd : decode cc pc = .ok (.getfield index, 3))
    (kk : Wd (PicH x) g nL (ad, ds, cm) k n (pc + 3) lv (v :: rest)) : Wd (PicH x) g nL (ad, ds, cm) k n pc lv (.ref (ad p) :: rest) := by
  intro H locs ls hP hS hl
  exact va_getN F.x F.b F.ts hin F.own hK.K (hw_one hP hL) 0 rfl hc f hf (va_Nw.use rfl hlk) hsame (by rw [hw_fs_at ad cm p fl hfl, hv]) hd (kk H locs ls hP hS hl)
theorem hw_fs_set (ad : Nat → Nat) (cm : Mem) (p : Nat) (fl : List (Option (Option Nat))) {f : Nat} (h : f < fl.length) (hi : fl.getD f none = none) (v : Int32) : (hw_fs ad cm p fl).set f (.int v) = hw_fs ad (m2 cm p f v) p fl := by
  apply List.ext_getElem?
  intro j
  by_cases hj : j < fl.length
  · rw [hw_fs_at ad _ p fl hj]
    by_cases e : j = f
    · subst e
      rw [List.getElem?_set_self (by rw [hw_fs_len]; exact h), hi]
      simp [hw_f, m2]
    · rw [List.getElem?_set_ne (Ne.symm e), hw_fs_at ad cm p fl hj]
      unfold hw_f
      rw [m2_i cm v e]
  · rw [List.getElem?_eq_none (by rw [List.length_set, hw_fs_len]; omega), List.getElem?_eq_none (by rw [hw_fs_len]; omega)]
/-- a store of an int into a field -/
theorem hh_put (F : Fx g cc nL own d mc ms K) (hK : KH0 x (gx_s g)) (hgA : gx_A g = hx_A x) {ref C : String} {T : u_T} {N ci index : Nat} (hin : ∀ w ∈ u_ws C T N, w ∈ lw_all) (ty : Nat → FieldType) (hty : ∀ k, k < N → parseFieldDescriptor (T k).2.2.1 = some (ty k)) (hnm : ∀ a, a < N → ∀ b, b < N → a ≠ b → (T a).2.1 ≠ (T b).2.1) (hc : (hx_cl x)[ci]? = some (C, T, N)) (p : Nat) {fl : List (Option (Option Nat))} (hL : ds p = some (.inl (ci, fl))) (hp : p % 64 < 60) (f : Nat) (hf : f < N) (hlk : Cond.fieldLink own index ref (T f).2.1 (T f).2.2.1 ∈ lw_all) (hsame : ∀ z, (gx_s g).fieldFound? (T f).1 (T f).2.1 (T f).2.2.1 = some z → (gx_s g).fieldFound? ref (T f).2.1 (T f).2.2.1 = some z) (hfl : f < fl.length) (hi : fl.getD f none = none) (hfin : (T f).2.2.2 = false) {v : Int32} (hn : narrow (ty f) (.int v) = .int v) (hfit : fits (ty f) (.int v) = true) (hd : decode cc pc = .ok (.putfield index, 3))
    (kk : Wd (PicH x) g nL (ad, ds, m2 cm p f v) k n (pc + 3) lv rest) : Wd (PicH x) g nL (ad, ds, cm) k n pc lv (.int v :: .ref (ad p) :: rest) := by
  intro H locs ls hP hS hl
  have hap := va_apart (own := own) F.ts hin ty hty hnm hK.K hc
  obtain ⟨r, h1, cell, q1, q2, q3, q4⟩ := hP.1 p _ hL
  have hr : r = (C, T, N) := Option.some.inj (h1.symm.trans hc)
  subst hr
  obtain ⟨hS1, hfc, kC, hkC, hkind⟩ := hK.1 ci _ hc
  obtain ⟨cf, kf, fi, fd, hi1, hsl⟩ := hS1 f hf
  have hlay := F.ts _ (hin _ (u_in_lay hf))
  unfold u_lay at hlay
  rw [if_neg (by rw [hfin]; decide)] at hlay
  have hst := (u_facts hfc hkC (u_lays F.ts hin hf) hi1).1
  have h6 := u_store hfc hkC hkind hlay hi1 (hty f hf) hn hfit
  refine W.putK F.x F.b (f := fd) ⟨F.own, F.ts _ hlk, ⟨_, _, _, hsame _ hi1⟩, hst⟩ (by rw [q2]; exact h6) q1 q3 (by rw [hsl]; exact k2_hasslot (q4 f hf)) rfl rfl hd fun H' e1 e2 e3 => ?_
  rw [hsl] at e1 ⊢
  refine kk H' _ ls (hP.setc hL e2 e3 (fun q hq => m2_ff cm v hq) ?_) (hS.put e2 e3 (by rw [hgA]; exact hP.2.2.1 p _ hL hp)) hl
  refine ⟨_, hc, t_OB.to (V := updV (vp_V (hw_fs ad cm p fl)) f (.int v)) ⟨_, e1, q2, q3, t_set q4 hap hf _⟩ (fun j _ => ?_)⟩
  rw [vp_updV_set (by rw [hw_fs_len]; exact hfl), hw_fs_set ad cm p fl hfl hi]
theorem hh_arr {H : Heap} (hP : PicH x (ad, ds, cm) H) {p t N : Nat} (hL : ds p = some (.inr (t, N, none))) : H[ad p]? = some (arrV (hx_ty x t) N (fun j => .int (cm p j))) := hP.1 p _ hL
theorem hh_arrR {H : Heap} (hP : PicH x (ad, ds, cm) H) {p t N : Nat} {gg : Nat → Option Nat} (hL : ds p = some (.inr (t, N, some gg))) : H[ad p]? = some (arrV (hx_ty x t) N (fun j => va_rf ((gg j).map ad))) := hP.1 p _ hL
theorem hh_ldI (F : Fx g cc nL own d mc ms K) (hK : KH0 x (gx_s g)) (p N : Nat) (hL : ds p = some (.inr (0, N, none))) (h2 : N < 2 ^ 31) {j : Nat} (hj : j < N) {v : Int32} (hd : decode cc pc = .ok (.iaload, 1)) (hv : cm p j = v)
    (kk : Wd (PicH x) g nL (ad, ds, cm) k n (pc + 1) lv (.int v :: rest)) : Wd (PicH x) g nL (ad, ds, cm) k n pc lv (.int (nI j) :: .ref (ad p) :: rest) := by
  intro H locs ls hP hS hl
  subst hv
  refine W.iald (v := .int (cm p j)) F.x F.b (hh_arr hP hL) ((hK.2.1 0 (by decide)).1 _ _) (fun q => by cases q) (by rw [arrV_size]; exact vp_in_nI hj h2) (by rw [nI_clamp (by omega), arrV_read _ _ hj]) rfl rfl hd (kk H locs ls hP hS hl)
theorem hh_ldZ (F : Fx g cc nL own d mc ms K) (hK : KH0 x (gx_s g)) (p N : Nat) (hL : ds p = some (.inr (1, N, none))) (h2 : N < 2 ^ 31) {j : Nat} (hj : j < N) {v : Int32} (hd : decode cc pc = .ok (.baload, 1)) (hv : cm p j = v)
    (kk : Wd (PicH x) g nL (ad, ds, cm) k n (pc + 1) lv (.int v :: rest)) : Wd (PicH x) g nL (ad, ds, cm) k n pc lv (.int (nI j) :: .ref (ad p) :: rest) := by
  intro H locs ls hP hS hl
  subst hv
  refine W.zald (v := .int (cm p j)) F.x F.b (hh_arr hP hL) ((hK.2.1 1 (by decide)).1 _ _) (fun q => by cases q) (by rw [arrV_size]; exact vp_in_nI hj h2) (by rw [nI_clamp (by omega), arrV_read _ _ hj]) rfl rfl hd (kk H locs ls hP hS hl)
theorem hh_ldB (F : Fx g cc nL own d mc ms K) (hK : KH0 x (gx_s g)) (p N : Nat) (hL : ds p = some (.inr (2, N, none))) (h2 : N < 2 ^ 31) {j : Nat} (hj : j < N) {v : Int32} (hd : decode cc pc = .ok (.baload, 1)) (hv : cm p j = v)
    (kk : Wd (PicH x) g nL (ad, ds, cm) k n (pc + 1) lv (.int v :: rest)) : Wd (PicH x) g nL (ad, ds, cm) k n pc lv (.int (nI j) :: .ref (ad p) :: rest) := by
  intro H locs ls hP hS hl
  subst hv
  refine W.bald (v := .int (cm p j)) F.x F.b (hh_arr hP hL) ((hK.2.1 2 (by decide)).1 _ _) (fun q => by cases q) (by rw [arrV_size]; exact vp_in_nI hj h2) (by rw [nI_clamp (by omega), arrV_read _ _ hj]) rfl rfl hd (kk H locs ls hP hS hl)
theorem hh_ldS (F : Fx g cc nL own d mc ms K) (hK : KH0 x (gx_s g)) (p N : Nat) (hL : ds p = some (.inr (3, N, none))) (h2 : N < 2 ^ 31) {j : Nat} (hj : j < N) {v : Int32} (hd : decode cc pc = .ok (.saload, 1)) (hv : cm p j = v)
    (kk : Wd (PicH x) g nL (ad, ds, cm) k n (pc + 1) lv (.int v :: rest)) : Wd (PicH x) g nL (ad, ds, cm) k n pc lv (.int (nI j) :: .ref (ad p) :: rest) := by
  intro H locs ls hP hS hl
  subst hv
  refine W.sald (v := .int (cm p j)) F.x F.b (hh_arr hP hL) ((hK.2.1 3 (by decide)).1 _ _) (fun q => by cases q) (by rw [arrV_size]; exact vp_in_nI hj h2) (by rw [nI_clamp (by omega), arrV_read _ _ hj]) rfl rfl hd (kk H locs ls hP hS hl)
/-- a reference out of an array of references -/
theorem hh_ldA (F : Fx g cc nL own d mc ms K) (hK : KH0 x (gx_s g)) (p t N : Nat) {gg : Nat → Option Nat} (hL : ds p = some (.inr (t, N, some gg))) (ht : t < 8) (htr : (hx_T t).isReference = true) (h2 : N < 2 ^ 31) {j q : Nat} (hj : j < N) (hd : decode cc pc = .ok (.aaload, 1)) (hv : gg j = some q)
    (kk : Wd (PicH x) g nL (ad, ds, cm) k n (pc + 1) lv (.ref (ad q) :: rest)) : Wd (PicH x) g nL (ad, ds, cm) k n pc lv (.int (nI j) :: .ref (ad p) :: rest) := by
  intro H locs ls hP hS hl
  refine W.aald (v := .ref (ad q)) F.x F.b (hh_arrR hP hL) ((hK.2.1 t ht).1 _ _) htr (fun z => by cases z) (by rw [arrV_size]; exact vp_in_nI hj h2) (by rw [nI_clamp (by omega), arrV_read _ _ hj, hv]; rfl) rfl rfl hd (kk H locs ls hP hS hl)
theorem hh_upd {H H1 : Heap} (hP : PicH x (ad, ds, cm) H) {p t N : Nat} (hL : ds p = some (.inr (t, N, none))) (i : Nat) (v : Int32) (hz : H1.size = H.size) (e : H1[ad p]? = some (arrV (hx_ty x t) N (updV (fun j => .int (cm p j)) i (.int v)))) (oq : ∀ q : Nat, q ≠ ad p → H1[q]? = H[q]?) : PicH x (ad, ds, m2 cm p i v) H1 := by
  refine hP.setc hL hz oq (fun q hq => m2_ff cm v hq) ?_
  show H1[ad p]? = some (vp_cell _ _)
  rw [e, vp_cell_i]
  congr 2
  funext q
  by_cases hq : q = i
  · subst hq; simp [updV, m2]
  · simp [updV, m2, hq]
theorem hh_stI (F : Fx g cc nL own d mc ms K) (hK : KH0 x (gx_s g)) (hgA : gx_A g = hx_A x) (p N : Nat) (hL : ds p = some (.inr (0, N, none))) (hp : p % 64 < 60) (h2 : N < 2 ^ 31) {j : Nat} (hj : j < N) {v : Int32} (hd : decode cc pc = .ok (.iastore, 1))
    (kk : Wd (PicH x) g nL (ad, ds, m2 cm p j v) k n (pc + 1) lv rest) : Wd (PicH x) g nL (ad, ds, cm) k n pc lv (.int v :: .int (nI j) :: .ref (ad p) :: rest) := by
  intro H locs ls hP hS hl
  refine W.iast F.x F.b (hh_arr hP hL) ((hK.2.1 0 (by decide)).1 _ _) (fun q => by cases q) (by rw [arrV_size]; exact vp_in_nI hj h2) rfl rfl hd fun H1 e z oq => ?_
  rw [nI_clamp (by omega)] at e ⊢
  refine kk H1 _ ls (hh_upd hP hL j v z (by rw [e, arrV_store]) oq) (hS.put z oq (by rw [hgA]; exact hP.2.2.1 p _ hL hp)) hl
theorem hh_stZ (F : Fx g cc nL own d mc ms K) (hK : KH0 x (gx_s g)) (hgA : gx_A g = hx_A x) (p N : Nat) (hL : ds p = some (.inr (1, N, none))) (hp : p % 64 < 60) (h2 : N < 2 ^ 31) {j : Nat} (hj : j < N) {v : Int32} (hz : vp_nar .boolean v = v) (hd : decode cc pc = .ok (.bastore, 1))
    (kk : Wd (PicH x) g nL (ad, ds, m2 cm p j v) k n (pc + 1) lv rest) : Wd (PicH x) g nL (ad, ds, cm) k n pc lv (.int v :: .int (nI j) :: .ref (ad p) :: rest) := by
  intro H locs ls hP hS hl
  refine W.zast F.x F.b (hh_arr hP hL) ((hK.2.1 1 (by decide)).1 _ _) (fun q => by cases q) (by rw [arrV_size]; exact vp_in_nI hj h2) rfl rfl hd fun H1 e z oq => ?_
  rw [nI_clamp (by omega)] at e ⊢
  have e' : H1[ad p]? = some (arrV (hx_ty x 1) N (updV (fun j => .int (cm p j)) j (.int v))) := by
    rw [e, arrV_store, show narrow .boolean (.int v) = .int (vp_nar .boolean v) from rfl, hz]
  exact kk H1 _ ls (hh_upd hP hL j v z e' oq) (hS.put z oq (by rw [hgA]; exact hP.2.2.1 p _ hL hp)) hl
theorem hh_stB (F : Fx g cc nL own d mc ms K) (hK : KH0 x (gx_s g)) (hgA : gx_A g = hx_A x) (p N : Nat) (hL : ds p = some (.inr (2, N, none))) (hp : p % 64 < 60) (h2 : N < 2 ^ 31) {j : Nat} (hj : j < N) {v : Int32} (hd : decode cc pc = .ok (.bastore, 1))
    (kk : Wd (PicH x) g nL (ad, ds, m2 cm p j (vp_nar .byte v)) k n (pc + 1) lv rest) : Wd (PicH x) g nL (ad, ds, cm) k n pc lv (.int v :: .int (nI j) :: .ref (ad p) :: rest) := by
  intro H locs ls hP hS hl
  refine W.bast F.x F.b (hh_arr hP hL) ((hK.2.1 2 (by decide)).1 _ _) (fun q => by cases q) (by rw [arrV_size]; exact vp_in_nI hj h2) rfl rfl hd fun H1 e z oq => ?_
  rw [nI_clamp (by omega)] at e ⊢
  have e' : H1[ad p]? = some (arrV (hx_ty x 2) N (updV (fun j => .int (cm p j)) j (.int (vp_nar .byte v)))) := by
    rw [e, arrV_store]; rfl
  exact kk H1 _ ls (hh_upd hP hL j _ z e' oq) (hS.put z oq (by rw [hgA]; exact hP.2.2.1 p _ hL hp)) hl
theorem hh_stS (F : Fx g cc nL own d mc ms K) (hK : KH0 x (gx_s g)) (hgA : gx_A g = hx_A x) (p N : Nat) (hL : ds p = some (.inr (3, N, none))) (hp : p % 64 < 60) (h2 : N < 2 ^ 31) {j : Nat} (hj : j < N) {v : Int32} (hd : decode cc pc = .ok (.sastore, 1))
    (kk : Wd (PicH x) g nL (ad, ds, m2 cm p j (vp_nar .short v)) k n (pc + 1) lv rest) : Wd (PicH x) g nL (ad, ds, cm) k n pc lv (.int v :: .int (nI j) :: .ref (ad p) :: rest) := by
  intro H locs ls hP hS hl
  refine W.sast F.x F.b (hh_arr hP hL) ((hK.2.1 3 (by decide)).1 _ _) (fun q => by cases q) (by rw [arrV_size]; exact vp_in_nI hj h2) rfl rfl hd fun H1 e z oq => ?_
  rw [nI_clamp (by omega)] at e ⊢
  have e' : H1[ad p]? = some (arrV (hx_ty x 3) N (updV (fun j => .int (cm p j)) j (.int (vp_nar .short v)))) := by
    rw [e, arrV_store]; rfl
  exact kk H1 _ ls (hh_upd hP hL j _ z e' oq) (hS.put z oq (by rw [hgA]; exact hP.2.2.1 p _ hL hp)) hl
theorem hh_len (F : Fx g cc nL own d mc ms K) (hK : KH0 x (gx_s g)) (p t N : Nat) {gg : Option (Nat → Option Nat)} (hL : ds p = some (.inr (t, N, gg))) (ht : t < 8) (hd : decode cc pc = .ok (.arraylength, 1))
    (kk : Wd (PicH x) g nL (ad, ds, cm) k n (pc + 1) lv (.int (nI N) :: rest)) : Wd (PicH x) g nL (ad, ds, cm) k n pc lv (.ref (ad p) :: rest) := by
  intro H locs ls hP hS hl
  cases gg with
  | none => exact W.alen (n := nI N) F.x F.b (hh_arr hP hL) ((hK.2.1 t ht).1 _ _) (by rw [arrV_size] <;> rfl) rfl rfl hd (kk H locs ls hP hS hl)
  | some gg => exact W.alen (n := nI N) F.x F.b (hh_arrR hP hL) ((hK.2.1 t ht).1 _ _) (by rw [arrV_size] <;> rfl) rfl rfl hd (kk H locs ls hP hS hl)
theorem hh_recv {U : State} (hK : KH0 x U) {p ci : Nat} {C : String} {T : u_T} {N : Nat} {fl : List (Option (Option Nat))} (hL : ds p = some (.inl (ci, fl))) (hc : (hx_cl x)[ci]? = some (C, T, N)) : ∀ H, PicH x (ad, ds, cm) H → ∃ cell : Cell, H[ad p]? = some cell ∧ cell.vm.isStatics = false ∧ U.vm.findClass C = some cell.cls := by
  intro H hP
  obtain ⟨r, h1, cell, q1, q2, q3, q4⟩ := hP.1 p _ hL
  exact ⟨cell, q1, by rw [q3]; rfl, by rw [q2]; exact (hK.1 ci _ hc).2.1⟩
end HR
