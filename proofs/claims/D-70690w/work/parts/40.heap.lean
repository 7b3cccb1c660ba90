/-! A HEAP BY PLACES: addresses, layouts, ints -/
/-- a layout: an object (class number; fields: none an int, some none null, some (some q) the place q) or an array (type number, length; none: ints; some g: references to places) -/
abbrev Lay : Type := (Nat × List (Option (Option Nat))) ⊕ (Nat × Nat × Option (Nat → Option Nat))
/-- addresses of places, layouts of places, ints at places -/
abbrev Hw : Type := (Nat → Nat) × (Nat → Option Lay) × Mem
/-- fixed: slots of classes, classes, array classes by number, what may change, from where on all may change -/
abbrev Hx : Type := va_G × List vw_C × (Nat → ClassId) × (Nat → Prop) × Nat × (Nat → Nat)
def hx_D (x : Hx) : va_G := x.1
def hx_cl (x : Hx) : List vw_C := x.2.1
def hx_ty (x : Hx) : Nat → ClassId := x.2.2.1
def hx_A (x : Hx) : Nat → Prop := x.2.2.2.1
def hx_hi (x : Hx) : Nat := x.2.2.2.2.1
/-- addresses of the constants: places that leave 60 or more by 64 -/
def hx_sa (x : Hx) : Nat → Nat := x.2.2.2.2.2
def hw_f (ad : Nat → Nat) (cm : Mem) (p k : Nat) (d : Option (Option Nat)) : Value := match d with
  | none => .int (cm p k)
  | some none => .null
  | some (some q) => .ref (ad q)
def hw_fs (ad : Nat → Nat) (cm : Mem) (p : Nat) (fl : List (Option (Option Nat))) : List Value := (List.range fl.length).map (fun k => hw_f ad cm p k (fl.getD k none))
def hw_cell (x : Hx) (ad : Nat → Nat) (cm : Mem) (p : Nat) (L : Lay) : va_E := match L with
  | .inl o => .inr (o.1, hw_fs ad cm p o.2)
  | .inr (t, n, none) => .inl (hx_ty x t, n, .inl (cm p))
  | .inr (t, n, some g) => .inl (hx_ty x t, n, .inr (.inr (.inr (.inr (fun j => (g j).map ad)))))
/-- the layout holds a reference to the place r -/
def hw_ref (L : Lay) (r : Nat) : Prop := match L with
  | .inl o => some (some r) ∈ o.2
  | .inr (_, _, none) => False
  | .inr (_, _, some g) => ∃ j, g j = some r
def PicH (x : Hx) (w : Hw) (H : Heap) : Prop :=
  (∀ (p : Nat) (L : Lay), w.2.1 p = some L → va_at (hx_D x) (hx_cl x) (w.1 p, hw_cell x w.1 w.2.2 p L) H) ∧
  (∀ (p q : Nat) (L L' : Lay), w.2.1 p = some L → w.2.1 q = some L' → w.1 p = w.1 q → p = q) ∧
  (∀ (p : Nat) (L : Lay), w.2.1 p = some L → p % 64 < 60 → hx_A x (w.1 p)) ∧ hx_hi x ≤ H.size ∧ (∀ (p r : Nat) (L : Lay), w.2.1 p = some L → hw_ref L r → ∃ L', w.2.1 r = some L') ∧ ∀ p, 60 ≤ p % 64 → w.1 p = hx_sa x p
/-- types of arrays by number -/
def hx_T (t : Nat) : FieldType := match t with
  | 0 => .int
  | 1 => .boolean
  | 2 => .byte
  | 3 => .short
  | 4 => .object "java/lang/Object"
  | 5 => .array .int
  | 6 => .object "InterestTaken$Sheet"
  | _ => .object "InterestTaken$Way"
def KH0 (x : Hx) (U : State) : Prop :=
  (∀ (c : Nat) (q : vw_C), (hx_cl x)[c]? = some q → u_Kn U q.1 q.2.1 q.2.2 ((hx_D x).1 c) ((hx_D x).2 c)) ∧ (∀ t, t < 8 → ArrOfT U (hx_ty x t) (hx_T t) ∧ va_RA U (hx_ty x t) (hx_T t)) ∧ ∀ q, hx_hi x ≤ q → hx_A x q
theorem KH0_st (A : Nat → Prop) (x : Hx) : Kst A (KH0 x) := fun u U h _ hk => ⟨fun c q hq => u_Kn_moved h.alike (hk.1 c q hq), fun t ht => ⟨arrOfT_moved h.alike (hk.2.1 t ht).1, (hk.2.1 t ht).2.moved h.alike⟩, hk.2.2⟩
theorem KH0.K {x : Hx} {U : State} (h : KH0 x U) : va_K (hx_D x) (hx_cl x) ((List.range 8).map (fun t => (hx_ty x t, hx_T t))) U := by
  refine ⟨h.1, fun k q hq => ?_⟩
  rw [List.getElem?_map] at hq
  by_cases hk : k < 8
  · rw [List.getElem?_range hk] at hq
    cases hq
    exact h.2.1 k hk
  · rw [List.getElem?_eq_none (by simp; omega)] at hq
    cases hq
theorem hw_fs_at (ad : Nat → Nat) (cm : Mem) (p : Nat) (fl : List (Option (Option Nat))) {k : Nat} (h : k < fl.length) : (hw_fs ad cm p fl)[k]? = some (hw_f ad cm p k (fl.getD k none)) := by
  unfold hw_fs
  rw [List.getElem?_map, List.getElem?_range h]
  rfl
theorem hw_fs_len (ad : Nat → Nat) (cm : Mem) (p : Nat) (fl : List (Option (Option Nat))) : (hw_fs ad cm p fl).length = fl.length := by simp [hw_fs]
theorem hw_one {x : Hx} {ad : Nat → Nat} {ds : Nat → Option Lay} {cm : Mem} {H : Heap} (hP : PicH x (ad, ds, cm) H) {p : Nat} {L : Lay} (hL : ds p = some L) : va_P (hx_D x) (hx_cl x) [(ad p, hw_cell x ad cm p L)] H := by
  intro j q hj
  have hz : j < 1 := (List.getElem?_eq_some_iff.mp hj).1
  rw [show j = 0 by omega] at hj
  cases hj
  exact hP.1 p L hL
/-- ints elsewhere: the cell is the same -/
theorem hw_cell_cm {x : Hx} {ad : Nat → Nat} {cm cm' : Mem} {p : Nat} (h : cm' p = cm p) (L : Lay) : hw_cell x ad cm' p L = hw_cell x ad cm p L := by
  rcases L with ⟨ci, fl⟩ | ⟨t, n, g | g⟩
  · show (Sum.inr (ci, hw_fs ad cm' p fl) : va_E) = Sum.inr (ci, hw_fs ad cm p fl)
    congr 2
    unfold hw_fs
    apply List.map_congr_left
    intro k _
    unfold hw_f
    rw [h]
  · show (Sum.inl (hx_ty x t, n, Sum.inl (cm' p)) : va_E) = Sum.inl (hx_ty x t, n, Sum.inl (cm p))
    rw [h]
  · rfl
theorem PicH.setc {x : Hx} {ad : Nat → Nat} {ds : Nat → Option Lay} {cm cm' : Mem} {H H1 : Heap} (hP : PicH x (ad, ds, cm) H) {p : Nat} {L : Lay} (hL : ds p = some L) (hz : H1.size = H.size) (oq : ∀ q : Nat, q ≠ ad p → H1[q]? = H[q]?) (hc : ∀ q, q ≠ p → cm' q = cm q) (he : va_at (hx_D x) (hx_cl x) (ad p, hw_cell x ad cm' p L) H1) : PicH x (ad, ds, cm') H1 := by
  refine ⟨fun q L' hq => ?_, hP.2.1, hP.2.2.1, by rw [hz]; exact hP.2.2.2.1, hP.2.2.2.2⟩
  by_cases e : q = p
  · subst e
    cases hL.symm.trans hq
    exact he
  · show va_at _ _ (ad q, hw_cell x ad cm' q L') H1
    rw [hw_cell_cm (hc q e)]
    exact (hP.1 q L' hq).kept (oq _ (fun z => e (hP.2.1 q p L' L hq hL z)))
