/-! THE REFERENCE'S WORLD: mem f i: what field f holds (an int: mem f 0; an array: its places) -/
abbrev Mem : Type := Nat → Nat → Int32
def m2 (m : Mem) (f i : Nat) (v : Int32) : Mem := fun f' j => if f' = f ∧ j = i then v else m f' j
theorem m2_self (m : Mem) (f i : Nat) (v : Int32) : m2 m f i v f i = v := by simp [m2]
theorem m2_f (m : Mem) {f f' i j : Nat} (v : Int32) (h : f' ≠ f) : m2 m f i v f' j = m f' j := by simp [m2, h]
theorem m2_i (m : Mem) {f f' i j : Nat} (v : Int32) (h : j ≠ i) : m2 m f i v f' j = m f' j := by simp [m2, h]
def mk_len (f : Nat) : Nat := [2, 62, 0, 9, 9, 9, 0, 9, 9, 0, 0, 0, 8, 8, 0, 6, 0, 160, 20, 8, 160, 160, 160, 9, 180, 0, 0, 0, 256, 0, 8, 8, 8, 200, 4, 4, 4, 240, 60, 0].getD f 0
def mk_bool (f : Nat) : Bool := f == 17 || (f == 18 || f == 34)
def mk_dom (f : Nat) : Prop := f = 40 ∨ mk_len f ≠ 0
/-- the fixed things of the reference's world: classes known, which is its class, the classes of int and boolean arrays, which cells may change, the addresses -/
abbrev Mx : Type := va_G × List vw_C × Nat × ClassId × ClassId × (Nat → Prop) × (Nat → Nat)
def mx_D (x : Mx) : va_G := x.1
def mx_cl (x : Mx) : List vw_C := x.2.1
def mx_ci (x : Mx) : Nat := x.2.2.1
def mx_I (x : Mx) : ClassId := x.2.2.2.1
def mx_Z (x : Mx) : ClassId := x.2.2.2.2.1
def mx_A (x : Mx) : Nat → Prop := x.2.2.2.2.2.1
def mx_ad (x : Mx) : Nat → Nat := x.2.2.2.2.2.2
def mk_fs (x : Mx) (m : Mem) : List Value := (List.range 40).map (fun f => if mk_len f = 0 then .int (m f 0) else .ref (mx_ad x f))
def mk_cell (x : Mx) (m : Mem) (f : Nat) : va_E := if f = 40 then .inr (mx_ci x, mk_fs x m) else .inl (if mk_bool f then mx_Z x else mx_I x, mk_len f, .inl (m f))
def PicM (x : Mx) (m : Mem) (H : Heap) : Prop := ∀ f, mk_dom f → va_at (mx_D x) (mx_cl x) (mx_ad x f, mk_cell x m f) H
def KM (x : Mx) (U : State) : Prop := va_K (mx_D x) (mx_cl x) [(mx_I x, .int), (mx_Z x, .boolean)] U ∧ (mx_cl x)[mx_ci x]? = some (RX6, TX6, 40) ∧ (∀ i j, mk_dom i → mk_dom j → mx_ad x i = mx_ad x j → i = j) ∧ ∀ i, mk_dom i → mx_A x (mx_ad x i)
theorem KM_st (A : Nat → Prop) (x : Mx) : Kst A (KM x) := fun u U h _ hk => ⟨va_K.moved h.alike hk.1, hk.2⟩
theorem mk_fs_at (x : Mx) (m : Mem) {f : Nat} (h : f < 40) : (mk_fs x m)[f]? = some (if mk_len f = 0 then .int (m f 0) else .ref (mx_ad x f)) := by
  unfold mk_fs
  rw [List.getElem?_map, List.getElem?_range h]
  rfl
theorem mk_fs_len (x : Mx) (m : Mem) : (mk_fs x m).length = 40 := by simp [mk_fs]
theorem mk_fs_set (x : Mx) (m : Mem) {f : Nat} (h : f < 40) (h0 : mk_len f = 0) (v : Int32) : (mk_fs x m).set f (.int v) = mk_fs x (m2 m f 0 v) := by
  apply List.ext_getElem?
  intro j
  by_cases hj : j < 40
  · rw [mk_fs_at x _ hj]
    by_cases e : j = f
    · subst e
      rw [List.getElem?_set_self (by rw [mk_fs_len]; exact h), if_pos h0, m2_self]
    · rw [List.getElem?_set_ne (Ne.symm e), mk_fs_at x _ hj, m2_f m v e]
  · rw [List.getElem?_eq_none (by rw [List.length_set, mk_fs_len]; omega), List.getElem?_eq_none (by rw [mk_fs_len]; omega)]
theorem mk_cell_f {x : Mx} {m : Mem} {f : Nat} (h : mk_len f ≠ 0) : mk_cell x m f = .inl (if mk_bool f then mx_Z x else mx_I x, mk_len f, .inl (m f)) := by
  have : f ≠ 40 := fun e => h (by rw [e]; rfl)
  simp [mk_cell, this]
theorem mk_dom_f {f : Nat} (h : mk_len f ≠ 0) : mk_dom f := Or.inr h
theorem PicM.set {x : Mx} {m m' : Mem} {H H1 : Heap} {U : State} (hK : KM x U) (h : PicM x m H) {f : Nat} (hf : mk_dom f) (he : va_at (mx_D x) (mx_cl x) (mx_ad x f, mk_cell x m' f) H1) (oq : ∀ q : Nat, q ≠ mx_ad x f → H1[q]? = H[q]?) (hm : ∀ f', mk_dom f' → f' ≠ f → mk_cell x m' f' = mk_cell x m f') : PicM x m' H1 := by
  intro f' hf'
  by_cases e : f' = f
  · subst e; exact he
  · rw [hm f' hf' e]
    exact (h f' hf').kept (oq _ (fun q => e (hK.2.2.1 f' f hf' hf q)))
section MO
variable {x : Mx} {g : Gx} {cc : ByteArray} {nL : Nat} {d mc ms : Nat} {m : Mem} {k n pc : Nat} {lv : Lv} {rest : List Value}
theorem mo_get (F : Fx g cc nL RX6 d mc ms (KM x)) (f : Nat) (hf : f < 40) {index : Nat} {v : Value} (hlk : Cond.fieldLink RX6 index RX6 (TX6 f).2.1 (TX6 f).2.2.1 ∈ lw_all) (hT : (TX6 f).1 = RX6) (hv : (if mk_len f = 0 then .int (m f 0) else .ref (mx_ad x f)) = v) (hd : decode cc pc = .ok (.getfield index, 3))
    (kk : Wd (PicM x) g nL m k n (pc + 3) lv (v :: rest)) : Wd (PicM x) g nL m k n pc lv (.ref (mx_ad x 40) :: rest) := by
  intro H locs ls hP hS hl
  have h40 : va_P (mx_D x) (mx_cl x) [(mx_ad x 40, .inr (mx_ci x, mk_fs x m))] H := by
    intro j q hj
    have hz : j < 1 := (List.getElem?_eq_some_iff.mp hj).1
    rw [show j = 0 by omega] at hj
    cases hj
    exact hP 40 (Or.inl rfl)
  exact va_get F.x F.b F.ts in_X6 F.own F.k.1 h40 0 rfl F.k.2.1 f hf (F.ts _ hlk) (fun z hz => by rw [hT] at hz; exact hz) (by rw [mk_fs_at x m hf, hv]) hd (kk H locs ls hP hS hl)
theorem mo_put (F : Fx g cc nL RX6 d mc ms (KM x)) (hgA : gx_A g = mx_A x) (f : Nat) (hf : f < 40) (hi : mk_len f = 0) (hty : tyX6 f = .int) (hfin : (TX6 f).2.2.2 = false) {index : Nat} {v : Int32} (hlk : Cond.fieldLink RX6 index RX6 (TX6 f).2.1 (TX6 f).2.2.1 ∈ lw_all) (hT : (TX6 f).1 = RX6) (hd : decode cc pc = .ok (.putfield index, 3))
    (kk : Wd (PicM x) g nL (m2 m f 0 v) k n (pc + 3) lv rest) : Wd (PicM x) g nL m k n pc lv (.int v :: .ref (mx_ad x 40) :: rest) := by
  intro H locs ls hP hS hl
  have hK := F.k
  have hap := va_apart (own := RX6) F.ts in_X6 tyX6 tyX6_ok nmX6 hK.1 hK.2.1
  obtain ⟨r, h1, cell, q1, q2, q3, q4⟩ := hP 40 (Or.inl rfl)
  have hr : r = (RX6, TX6, 40) := Option.some.inj (h1.symm.trans hK.2.1)
  subst hr
  obtain ⟨hS1, hfc, kC, hkC, hkind⟩ := hK.1.1 (mx_ci x) _ hK.2.1
  obtain ⟨cf, kf, fi, fd, hi1, hsl⟩ := hS1 f hf
  have hlay := F.ts _ (in_X6 _ (u_in_lay hf))
  unfold u_lay at hlay
  rw [if_neg (by rw [hfin]; decide)] at hlay
  have hst := (u_facts hfc hkC (u_lays F.ts in_X6 hf) hi1).1
  have h6 := u_store hfc hkC hkind hlay hi1 (tyX6_ok f hf) (v := .int v) (by rw [hty]; rfl) (by rw [hty]; rfl)
  refine W.putK F.x F.b (f := fd) ⟨F.own, F.ts _ hlk, ⟨_, _, _, by rw [hT] at hi1; exact hi1⟩, hst⟩ (by rw [q2]; exact h6) q1 q3 (by rw [hsl]; exact k2_hasslot (q4 f hf)) rfl rfl hd fun H' e1 e2 e3 => ?_
  rw [hsl] at e1 ⊢
  refine kk H' _ ls (hP.set hK (f := 40) (Or.inl rfl) ?_ e3 ?_) (hS.put e2 e3 (by rw [hgA]; exact hK.2.2.2 40 (Or.inl rfl))) hl
  · refine ⟨_, hK.2.1, t_OB.to (V := updV (vp_V (mk_fs x m)) f (.int v)) ⟨_, e1, q2, q3, t_set q4 hap hf _⟩ (fun j _ => ?_)⟩
    rw [vp_updV_set (by rw [mk_fs_len]; exact hf), mk_fs_set x m hf hi]
  · intro f' hd' hne
    rcases hd' with e | e
    · exact absurd e hne
    · rw [mk_cell_f e, mk_cell_f e]
      have : f' ≠ f := fun z => e (by rw [z]; exact hi)
      congr 4
      funext j
      rw [m2_f m v this]
theorem mo_arr (hK : KM x (gx_s g)) (f : Nat) (hb : mk_bool f = false) : ArrOfT (gx_s g) (if mk_bool f then mx_Z x else mx_I x) .int := by
  rw [hb]; exact (hK.1.2 0 _ rfl).1
theorem mo_arrZ (hK : KM x (gx_s g)) (f : Nat) (hb : mk_bool f = true) : ArrOfT (gx_s g) (if mk_bool f then mx_Z x else mx_I x) .boolean := by
  rw [hb]; exact (hK.1.2 1 _ rfl).1
theorem mo_at {H : Heap} (hP : PicM x m H) (f : Nat) (hf : mk_len f ≠ 0) : H[mx_ad x f]? = some (arrV (if mk_bool f then mx_Z x else mx_I x) (mk_len f) (fun j => .int (m f j))) := by
  have h := hP f (Or.inr hf)
  rw [mk_cell_f hf] at h
  exact h
theorem mo_iald (F : Fx g cc nL RX6 d mc ms (KM x)) (f : Nat) (hf : mk_len f ≠ 0) (hb : mk_bool f = false) {i : Int32} (hin : vp_in i (mk_len f)) (hd : decode cc pc = .ok (.iaload, 1))
    (kk : Wd (PicM x) g nL m k n (pc + 1) lv (.int (m f i.toNatClampNeg) :: rest)) : Wd (PicM x) g nL m k n pc lv (.int i :: .ref (mx_ad x f) :: rest) := by
  intro H locs ls hP hS hl
  have hlt : i.toNatClampNeg < mk_len f := Nat.not_le.mp fun q => hin (Or.inr q)
  exact W.iald (v := .int (m f i.toNatClampNeg)) F.x F.b (mo_at hP f hf) (mo_arr F.k f hb _ _) (fun q => by cases q) (by rw [arrV_size]; exact hin) (by rw [arrV_read _ _ hlt]) rfl rfl hd (kk H locs ls hP hS hl)
theorem mo_bald (F : Fx g cc nL RX6 d mc ms (KM x)) (f : Nat) (hf : mk_len f ≠ 0) (hb : mk_bool f = true) {i : Int32} (hin : vp_in i (mk_len f)) (hd : decode cc pc = .ok (.baload, 1))
    (kk : Wd (PicM x) g nL m k n (pc + 1) lv (.int (m f i.toNatClampNeg) :: rest)) : Wd (PicM x) g nL m k n pc lv (.int i :: .ref (mx_ad x f) :: rest) := by
  intro H locs ls hP hS hl
  have hlt : i.toNatClampNeg < mk_len f := Nat.not_le.mp fun q => hin (Or.inr q)
  exact W.zald (v := .int (m f i.toNatClampNeg)) F.x F.b (mo_at hP f hf) (mo_arrZ F.k f hb _ _) (fun q => by cases q) (by rw [arrV_size]; exact hin) (by rw [arrV_read _ _ hlt]) rfl rfl hd (kk H locs ls hP hS hl)
theorem mo_upd {H H1 : Heap} {U : State} (hK : KM x U) (hP : PicM x m H) (f : Nat) (hf : mk_len f ≠ 0) (i : Nat) (v : Int32) (e : H1[mx_ad x f]? = some (arrV (if mk_bool f then mx_Z x else mx_I x) (mk_len f) (updV (fun j => .int (m f j)) i (.int v)))) (oq : ∀ q : Nat, q ≠ mx_ad x f → H1[q]? = H[q]?) : PicM x (m2 m f i v) H1 := by
  refine hP.set hK (Or.inr hf) ?_ oq ?_
  · rw [mk_cell_f hf]
    show H1[mx_ad x f]? = some (vp_cell _ _)
    rw [e, vp_cell_i]
    congr 2
    funext q
    by_cases hq : q = i
    · subst hq; simp [updV, m2]
    · simp [updV, m2, hq]
  · intro f' hd' hne
    rcases hd' with e' | e'
    · subst e'
      unfold mk_cell
      rw [if_pos rfl, if_pos rfl]
      congr 2
      unfold mk_fs
      apply List.map_congr_left
      intro j _
      by_cases hj : mk_len j = 0
      · rw [if_pos hj, if_pos hj, m2_f m v (fun z => hf (by rw [← z]; exact hj))]
      · rw [if_neg hj, if_neg hj]
    · rw [mk_cell_f e', mk_cell_f e']
      congr 4
      funext j
      rw [m2_f m v hne]
theorem mo_iast (F : Fx g cc nL RX6 d mc ms (KM x)) (hgA : gx_A g = mx_A x) (f : Nat) (hf : mk_len f ≠ 0) (hb : mk_bool f = false) {i v : Int32} (hin : vp_in i (mk_len f)) (hd : decode cc pc = .ok (.iastore, 1))
    (kk : Wd (PicM x) g nL (m2 m f i.toNatClampNeg v) k n (pc + 1) lv rest) : Wd (PicM x) g nL m k n pc lv (.int v :: .int i :: .ref (mx_ad x f) :: rest) := by
  intro H locs ls hP hS hl
  refine W.iast F.x F.b (mo_at hP f hf) (mo_arr F.k f hb _ _) (fun q => by cases q) (by rw [arrV_size]; exact hin) rfl rfl hd fun H1 e z oq => ?_
  refine kk H1 _ ls (mo_upd F.k hP f hf _ v ?_ oq) (hS.put z oq (by rw [hgA]; exact F.k.2.2.2 f (Or.inr hf))) hl
  rw [e, arrV_store]
theorem mo_bast (F : Fx g cc nL RX6 d mc ms (KM x)) (hgA : gx_A g = mx_A x) (f : Nat) (hf : mk_len f ≠ 0) (hb : mk_bool f = true) {i v : Int32} (hin : vp_in i (mk_len f)) (hd : decode cc pc = .ok (.bastore, 1))
    (kk : Wd (PicM x) g nL (m2 m f i.toNatClampNeg (vp_nar .boolean v)) k n (pc + 1) lv rest) : Wd (PicM x) g nL m k n pc lv (.int v :: .int i :: .ref (mx_ad x f) :: rest) := by
  intro H locs ls hP hS hl
  refine W.zast F.x F.b (mo_at hP f hf) (mo_arrZ F.k f hb _ _) (fun q => by cases q) (by rw [arrV_size]; exact hin) rfl rfl hd fun H1 e z oq => ?_
  refine kk H1 _ ls (mo_upd F.k hP f hf _ _ ?_ oq) (hS.put z oq (by rw [hgA]; exact F.k.2.2.2 f (Or.inr hf))) hl
  rw [e, arrV_store]
  rfl
theorem mo_recv {U : State} (hK : KM x U) : ∀ H, PicM x m H → ∃ cell : Cell, H[mx_ad x 40]? = some cell ∧ cell.vm.isStatics = false ∧ U.vm.findClass RX6 = some cell.cls := by
  intro H hP
  obtain ⟨r, h1, cell, q1, q2, q3, q4⟩ := hP 40 (Or.inl rfl)
  exact ⟨cell, q1, by rw [q3]; rfl, by rw [q2]; exact (hK.1.1 (mx_ci x) _ hK.2.1).2.1⟩
end MO
