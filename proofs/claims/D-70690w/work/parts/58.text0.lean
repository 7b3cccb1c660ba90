/-! TEXTS: what a thrown Torn leaves, what a text's step keeps -/
def tnL : Lay := .inl (7, [some none, some none, some none, some none, some none, none, none])
theorem tn_fs (ad : Nat → Nat) (cm : Mem) (p : Nat) (v : Int32) : hw_fs ad (m2 (z0 cm p) p 6 v) p [some none, some none, some none, some none, some none, none, none] = tnF v := by
  show [_, _, _, _, _, Value.int (m2 (z0 cm p) p 6 v p 5), Value.int (m2 (z0 cm p) p 6 v p 6)] = _
  rw [m2_self, m2_i _ _ (by decide), z0_s]
  rfl
/-- a step of the text whose object is the place tx: only places of S and its field 'at' change -/
def TkS (tx : Nat) (S : Nat → Prop) (ad : Nat → Nat) (ds : Nat → Option Lay) (cm : Mem) (ad' : Nat → Nat) (ds' : Nat → Option Lay) (cm' : Mem) : Prop :=
  (∀ r, ¬ S r → ad' r = ad r) ∧ (∀ r, ¬ S r → ds' r = ds r) ∧ ∀ r j, ¬ S r → ¬ (r = tx ∧ j = 3) → cm' r j = cm r j
theorem TkS.rf {tx : Nat} {S : Nat → Prop} {ad : Nat → Nat} {ds : Nat → Option Lay} {cm : Mem} : TkS tx S ad ds cm ad ds cm := ⟨fun _ _ => rfl, fun _ _ => rfl, fun _ _ _ _ => rfl⟩
theorem TkS.tr {tx : Nat} {S : Nat → Prop} {ad ad' ad'' : Nat → Nat} {ds ds' ds'' : Nat → Option Lay} {cm cm' cm'' : Mem} (h : TkS tx S ad ds cm ad' ds' cm') (h' : TkS tx S ad' ds' cm' ad'' ds'' cm'') : TkS tx S ad ds cm ad'' ds'' cm'' :=
  ⟨fun r hr => (h'.1 r hr).trans (h.1 r hr), fun r hr => (h'.2.1 r hr).trans (h.2.1 r hr), fun r j hr hj => (h'.2.2 r j hr hj).trans (h.2.2 r j hr hj)⟩
theorem TkS.mo {tx : Nat} {S S' : Nat → Prop} {ad ad' : Nat → Nat} {ds ds' : Nat → Option Lay} {cm cm' : Mem} (hS : ∀ r, S r → S' r) (h : TkS tx S ad ds cm ad' ds' cm') : TkS tx S' ad ds cm ad' ds' cm' :=
  ⟨fun r hr => h.1 r (fun z => hr (hS r z)), fun r hr => h.2.1 r (fun z => hr (hS r z)), fun r j hr hj => h.2.2 r j (fun z => hr (hS r z)) hj⟩
/-- the world behind a throw: Torn at the place tn, told v -/
def TnW (tx tn : Nat) (S : Nat → Prop) (ad : Nat → Nat) (ds : Nat → Option Lay) (cm : Mem) (v : Int32) (a : Nat) (w : Hw) : Prop :=
  ∃ ad' ds' cm', w = (ad', ds', cm') ∧ TkS tx (fun r => r = tn ∨ S r) ad ds cm ad' ds' cm' ∧ a = ad' tn ∧ ds' tn = some tnL ∧ cm' tn 6 = v
theorem tk_at {tx : Nat} {S : Nat → Prop} {ad : Nat → Nat} {ds : Nat → Option Lay} {cm : Mem} {v : Int32} : TkS tx S ad ds cm ad ds (m2 cm tx 3 v) :=
  ⟨fun _ _ => rfl, fun _ _ => rfl, fun r j _ hj => by simp [m2]; intro h1 h2; exact absurd ⟨h1, h2⟩ hj⟩
/-- the bytes of a text: ty of them, the j-th is bt j -/
def TxB (cm : Mem) (tx bp rm ty : Nat) (bt : Nat → Nat) : Prop := cm tx 2 = nI ty ∧ ty ≤ rm ∧ ∀ j, j < ty → bt j < 256 ∧ cm bp j &&& nI 255 = nI (bt j)
theorem TxB.of {cm cm' : Mem} {tx bp rm ty : Nat} {bt : Nat → Nat} (h : TxB cm tx bp rm ty bt) (h1 : cm' tx 2 = cm tx 2) (h2 : ∀ j, cm' bp j = cm bp j) : TxB cm' tx bp rm ty bt := ⟨h1.trans h.1, h.2.1, fun j hj => ⟨(h.2.2 j hj).1, by rw [h2]; exact (h.2.2 j hj).2⟩⟩
theorem TxB.at {cm : Mem} {tx bp rm ty : Nat} {bt : Nat → Nat} (h : TxB cm tx bp rm ty bt) (hne : bp ≠ tx) (v : Int32) : TxB (m2 cm tx 3 v) tx bp rm ty bt := h.of (m2_i _ _ (by decide)) (fun j => m2_f _ _ hne)
theorem TxB.z {cm : Mem} {tx bp rm ty p : Nat} {bt : Nat → Nat} (h : TxB cm tx bp rm ty bt) (h1 : tx ≠ p) (h2 : bp ≠ p) : TxB (z0 cm p) tx bp rm ty bt := h.of (by rw [z0_n _ h1]) (fun j => by rw [z0_n _ h2])
theorem FixD.up {ds : Nat → Option Lay} {p : Nat} {L : Option Lay} (hp : fixL p = none) (h : FixD ds) : FixD (up1 ds p L) := fun q L' hq => by
  have hne : q ≠ p := fun z => by rw [z, hp] at hq; cases hq
  rw [up1_n _ _ hne]
  exact h q L' hq
theorem fix_no {p : Nat} (h : p % 64 = 32 ∨ p % 64 = 33 ∨ p % 64 = 42 ∨ p % 64 = 43) : fixL p = none := by
  unfold fixL
  repeat rw [if_neg (by omega)]
theorem nI_nm1 {k : Nat} (h : k < 2 ^ 31) : ¬ nI k = -1 := fun z => nI_pos h (by rw [z]; decide)
theorem kx0 : ∀ c, c < 256 → kx_ix 0 c = if 48 ≤ c ∧ c ≤ 57 then nI (c - 48) else -1 := by decide +kernel
theorem kx1 : ∀ c, c < 256 → kx_ix 1 c = if 97 ≤ c ∧ c ≤ 100 then nI (c - 97) else -1 := by decide +kernel
theorem kx2 : ∀ c, c < 256 → kx_ix 2 c = if c = 59 then nI 0 else -1 := by decide +kernel
theorem kx3 : ∀ c, c < 256 → kx_ix 3 c = if c = 107 then nI 1 else if c = 100 then nI 0 else -1 := by decide +kernel
/-- what stands at a: a figure, a letter of a topic, 'd' or 'k', a semicolon -/
abbrev dgO (ty : Nat) (bt : Nat → Nat) (a : Nat) : Prop := a < ty ∧ 48 ≤ bt a ∧ bt a ≤ 57
abbrev ltO (ty : Nat) (bt : Nat → Nat) (a : Nat) : Prop := a < ty ∧ 97 ≤ bt a ∧ bt a ≤ 100
abbrev dkO (ty : Nat) (bt : Nat → Nat) (a : Nat) : Prop := a < ty ∧ (bt a = 100 ∨ bt a = 107)
abbrev scO (ty : Nat) (bt : Nat → Nat) (a : Nat) : Prop := a < ty ∧ bt a = 59
theorem dg_t {ty a : Nat} {bt : Nat → Nat} (hb : ∀ j, j < ty → bt j < 256) (h : dgO ty bt a) : kx_ix 0 (bt a) = nI (bt a - 48) ∧ ¬ kx_ix 0 (bt a) = -1 := by
  have e : kx_ix 0 (bt a) = nI (bt a - 48) := by rw [kx0 _ (hb a h.1), if_pos h.2]
  exact ⟨e, by rw [e]; exact nI_nm1 (by have := hb a h.1; omega)⟩
theorem dg_f {ty a : Nat} {bt : Nat → Nat} (hb : ∀ j, j < ty → bt j < 256) (h : ¬ dgO ty bt a) : a < ty → kx_ix 0 (bt a) = -1 := fun ha => by rw [kx0 _ (hb a ha), if_neg (fun z => h ⟨ha, z⟩)]
theorem lt_t {ty a : Nat} {bt : Nat → Nat} (hb : ∀ j, j < ty → bt j < 256) (h : ltO ty bt a) : kx_ix 1 (bt a) = nI (bt a - 97) ∧ ¬ kx_ix 1 (bt a) = -1 := by
  have e : kx_ix 1 (bt a) = nI (bt a - 97) := by rw [kx1 _ (hb a h.1), if_pos h.2]
  exact ⟨e, by rw [e]; exact nI_nm1 (by have := hb a h.1; omega)⟩
theorem lt_f {ty a : Nat} {bt : Nat → Nat} (hb : ∀ j, j < ty → bt j < 256) (h : ¬ ltO ty bt a) : a < ty → kx_ix 1 (bt a) = -1 := fun ha => by rw [kx1 _ (hb a ha), if_neg (fun z => h ⟨ha, z⟩)]
theorem dk_t {ty a : Nat} {bt : Nat → Nat} (hb : ∀ j, j < ty → bt j < 256) (h : dkO ty bt a) : kx_ix 3 (bt a) = nI (if bt a = 107 then 1 else 0) ∧ ¬ kx_ix 3 (bt a) = -1 := by
  have e : kx_ix 3 (bt a) = nI (if bt a = 107 then 1 else 0) := by
    rw [kx3 _ (hb a h.1)]
    rcases h.2 with z | z <;> rw [z] <;> rfl
  exact ⟨e, by rw [e]; exact nI_nm1 (by split <;> decide)⟩
theorem dk_f {ty a : Nat} {bt : Nat → Nat} (hb : ∀ j, j < ty → bt j < 256) (h : ¬ dkO ty bt a) : a < ty → kx_ix 3 (bt a) = -1 := fun ha => by rw [kx3 _ (hb a ha), if_neg (fun z => h ⟨ha, Or.inr z⟩), if_neg (fun z => h ⟨ha, Or.inl z⟩)]
theorem sc_t {ty a : Nat} {bt : Nat → Nat} (hb : ∀ j, j < ty → bt j < 256) (h : scO ty bt a) : ¬ kx_ix 2 (bt a) = -1 := by rw [kx2 _ (hb a h.1), if_pos h.2]; decide
theorem sc_f {ty a : Nat} {bt : Nat → Nat} (hb : ∀ j, j < ty → bt j < 256) (h : ¬ scO ty bt a) : a < ty → kx_ix 2 (bt a) = -1 := fun ha => by rw [kx2 _ (hb a ha), if_neg (fun z => h ⟨ha, z⟩)]
/-- the part at a is good; bad: how many bytes of it are good -/
abbrev okX2 (ty : Nat) (bt : Nat → Nat) (a : Nat) : Prop := dgO ty bt a ∧ dkO ty bt (a + 1) ∧ ltO ty bt (a + 2)
abbrev okX3 (ty : Nat) (bt : Nat → Nat) (a : Nat) : Prop := dgO ty bt a ∧ ltO ty bt (a + 1)
def bdX2 (ty : Nat) (bt : Nat → Nat) (a o : Nat) : Prop := (o = 0 ∧ ¬ dgO ty bt a) ∨ (o = 1 ∧ dgO ty bt a ∧ ¬ dkO ty bt (a + 1)) ∨ (o = 2 ∧ dgO ty bt a ∧ dkO ty bt (a + 1) ∧ ¬ ltO ty bt (a + 2))
def bdX3 (ty : Nat) (bt : Nat → Nat) (a o : Nat) : Prop := (o = 0 ∧ ¬ dgO ty bt a) ∨ (o = 1 ∧ dgO ty bt a ∧ ¬ ltO ty bt (a + 1))
/-- the element at the place p, read at a -/
def elX2 (ds : Nat → Option Lay) (cm : Mem) (p : Nat) (bt : Nat → Nat) (a : Nat) : Prop := ds p = some (.inl (5, [none, some (some (60 + 64 * ((if bt (a + 1) = 107 then 1 else 0) + 1))), none])) ∧ cm p 0 = nI (bt a - 48) ∧ cm p 2 = nI (bt (a + 2) - 97)
def elX3 (ds : Nat → Option Lay) (cm : Mem) (p : Nat) (bt : Nat → Nat) (a : Nat) : Prop := ds p = some (.inl (4, [none, none])) ∧ cm p 0 = nI (bt a - 48) ∧ cm p 1 = nI (bt (a + 1) - 97)
section TXT
variable {x : Hx} {g : Gx} {cc : ByteArray} {nL : Nat} {own : String} {d mc ms : Nat} {ad : Nat → Nat} {ds : Nat → Option Lay} {cm : Mem} {k n pc : Nat} {lv : Lv} {rest : List Value}
theorem hh_getsN (F : Fx g cc nL own d mc ms (KC x)) (hA : gx_A g = hx_A x) {q index : Nat} {C nm dd host : String} (hZ : va_Z C nm dd (.ref (hx_sa x q)) (hx_A x) (gx_s g) (gx_s g).heap) (hq : 60 ≤ q % 64) (hlk : va_Nw (Cond.fieldLinkNest own index C nm dd host) (gx_s g)) (hd : decode cc pc = .ok (.getstatic index, 3))
    (kk : Wd (PicH x) g nL (ad, ds, cm) k n (pc + 3) lv (.ref (ad q) :: rest)) : Wd (PicH x) g nL (ad, ds, cm) k n pc lv rest := fun H locs ls hP hS hl => by
  have e : ad q = hx_sa x q := hP.2.2.2.2.2 q hq
  have kk' := kk H locs ls hP hS hl
  rw [e] at kk'
  exact va_getsN F.x F.b (by rw [hA]; exact hZ) hS F.own (va_Nw.use rfl hlk) (fun _ h => h) hd kk'
end TXT
/-- places of a text's elements (and of what it threw) are dropped -/
def drq (a b r : Nat) : Prop := (r % 64 = a ∧ r ≠ a) ∨ (r % 64 = b ∧ r ≠ b)
def drp (a b : Nat) (ds : Nat → Option Lay) : Nat → Option Lay := fun r => if (r % 64 = a ∧ r ≠ a) ∨ (r % 64 = b ∧ r ≠ b) then none else ds r
theorem drp_n {a b r : Nat} {ds : Nat → Option Lay} (h : ¬ drq a b r) : drp a b ds r = ds r := if_neg h
theorem drp_y {a b r : Nat} {ds : Nat → Option Lay} (h : drq a b r) : drp a b ds r = none := if_pos h
theorem drp_s {a b r : Nat} {ds : Nat → Option Lay} {L : Lay} (h : drp a b ds r = some L) : ¬ drq a b r ∧ ds r = some L := by
  unfold drp at h
  by_cases c : (r % 64 = a ∧ r ≠ a) ∨ (r % 64 = b ∧ r ≠ b)
  · rw [if_pos c] at h; cases h
  · rw [if_neg c] at h; exact ⟨c, h⟩
theorem wd_drop {x : Hx} {g : Gx} {nL : Nat} {ad : Nat → Nat} {ds : Nat → Option Lay} {cm : Mem} {k n pc a b : Nat} {lv : Lv} {st : List Value} (hro : ∀ r L q, ¬ drq a b r → ds r = some L → hw_ref L q → ¬ drq a b q) (kk : Wd (PicH x) g nL (ad, drp a b ds, cm) k n pc lv st) : Wd (PicH x) g nL (ad, ds, cm) k n pc lv st := by
  refine Wd.pic (fun H hP => hP.less (fun p L h => (drp_s h).2) (fun _ _ _ => rfl) (fun _ _ _ => rfl) (fun _ _ => rfl) (fun p r L h hr => ?_)) kk
  obtain ⟨h1, h2⟩ := drp_s h
  obtain ⟨L', h3⟩ := hP.2.2.2.2.1 p r L h2 hr
  exact ⟨L', by rw [drp_n (hro p L r h1 h2 hr)]; exact h3⟩
theorem txb_tk {tx bp rm ty : Nat} {bt : Nat → Nat} {S : Nat → Prop} {ad ad' : Nat → Nat} {ds ds' : Nat → Option Lay} {cm cm' : Mem} (h : TxB cm tx bp rm ty bt) (t : TkS tx S ad ds cm ad' ds' cm') (h1 : ¬ S tx) (h2 : ¬ S bp) (h3 : bp ≠ tx) : TxB cm' tx bp rm ty bt :=
  h.of (t.2.2 tx 2 h1 (fun z => by cases z.2)) (fun j => t.2.2 bp j h2 (fun z => h3 z.1))
theorem fix_tk {tx : Nat} {S : Nat → Prop} {ad ad' : Nat → Nat} {ds ds' : Nat → Option Lay} {cm cm' : Mem} (h : FixD ds) (t : TkS tx S ad ds cm ad' ds' cm') (hS : ∀ r, S r → r % 64 = 32 ∨ r % 64 = 33 ∨ r % 64 = 42 ∨ r % 64 = 43) : FixD ds' := fun r L hr => by
  rw [t.2.1 r (fun z => by rw [fix_no (hS r z)] at hr; cases hr)]
  exact h r L hr
