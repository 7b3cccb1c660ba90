/-! ROWS FOR THE CLASS'S OWN METHODS: lists, casts, ways, ears; the facts of its lists -/
/-- where the class's lists hold what: savers (32), board (42), calls (4), wars (5), seen (21): element j of the list at place b lies at b + 64 * (j + 1), but for the board's (eB) -/
def DD (ds : Nat → Option Lay) (ns np nc nw ne : Nat) (eB wy q N : Nat → Nat) : Prop :=
  FixD ds ∧ (LsD ds 32 (q 0) (N 0) ns (fun k => 32 + 64 * (k + 1)) ∧ LsD ds 42 (q 1) (N 1) np eB ∧ LsD ds 4 (q 2) (N 2) nc (fun k => 4 + 64 * (k + 1)) ∧ LsD ds 5 (q 3) (N 3) nw (fun k => 5 + 64 * (k + 1)) ∧ LsD ds 21 (q 4) (N 4) ne (fun k => 21 + 64 * (k + 1))) ∧
  ((∀ k, k < ns → ds (32 + 64 * (k + 1)) = some (.inl (5, [none, some (some (wy k)), none]))) ∧ (∀ k, k < np → ds (eB k) = some (.inl (4, [none, none]))) ∧ (∀ k, k < nc → ds (4 + 64 * (k + 1)) = some (.inr (0, 2, none))) ∧ (∀ k, k < nw → ds (5 + 64 * (k + 1)) = some (.inr (0, 1, none))) ∧ ∀ k, k < ne → ds (21 + 64 * (k + 1)) = some (.inr (0, 3, none))) ∧
  (∀ k, eB k % 64 = 42 ∨ eB k % 64 = 18) ∧ (∀ k, wy k = 124 ∨ wy k = 188) ∧ ns ≤ 8 ∧ np ≤ 9 ∧ nc ≤ 8 ∧ nw ≤ 6 ∧ ne ≤ 8
section CR
variable {x : Hx} {g : Gx} {cc : ByteArray} {nL : Nat} {own : String} {d mc ms : Nat} {ad : Nat → Nat} {ds : Nat → Option Lay} {cm : Mem} {k n pc : Nat} {lv : Lv} {rest : List Value}
theorem cl_size (F : Fx g cc nL own d mc ms (KC x)) (hA : gx_A g = hx_A x) {a q N m : Nat} {e : Nat → Nat} {index : Nat} (hL : LsD ds a q N m e) (hn : cm a 2 = nI m) (hG : GoodIn lw_all (wsV own index RJ2 yJ2_size (ws_ yJ2_size cJ2_size 1 (some .int)))) (hdd : 2 ≤ d) (hc : k ≤ mc) (hs : n ≤ ms) (hst : (rest.map fun v => v.category).sum ≤ 8) (hd : decode cc pc = .ok (.invokevirtual index, 3))
    (kk : Wd (PicH x) g nL (ad, ds, cm) k n (pc + 3) lv (.int (nI m) :: rest)) : Wd (PicH x) g nL (ad, ds, cm) k n pc lv (.ref (ad a) :: rest) := by
  refine Wd.eqs (st' := ([] : List Value).reverse ++ .ref (ad a) :: rest) rfl ?_
  refine ca_V (N := 0) (by rw [hA]; exact KC_st x) F (fun q hq => by rw [hA]; exact hq) (metJ2_size (gx_l g) x ad ds cm a q N m e hL hn) hG (hh_recv F.k.1 hL.1 (F.k.c rfl)) (by decide +kernel) rfl hdd (by decide) hc hs hst hd (fun v w' hp => ?_)
  rw [hp.1, hp.2]
  exact kk
theorem cl_get (F : Fx g cc nL own d mc ms (KC x)) (hA : gx_A g = hx_A x) {a q N m : Nat} {e : Nat → Nat} {index i : Nat} (hL : LsD ds a q N m e) (hn : cm a 2 = nI m) (hi : i < m) (hG : GoodIn lw_all (wsV own index RJ2 yJ2_get (ws_ yJ2_get cJ2_get 2 (some (.object "java/lang/Object"))))) (hdd : 4 ≤ d) (hc : k ≤ mc) (hs : n ≤ ms) (hst : (rest.map fun v => v.category).sum ≤ 8) (hd : decode cc pc = .ok (.invokevirtual index, 3))
    (kk : Wd (PicH x) g nL (ad, ds, cm) k n (pc + 3) lv (.ref (ad (e i)) :: rest)) : Wd (PicH x) g nL (ad, ds, cm) k n pc lv (.int (nI i) :: .ref (ad a) :: rest) := by
  refine Wd.eqs (st' := ([.int (nI i)] : List Value).reverse ++ .ref (ad a) :: rest) rfl ?_
  refine ca_V (N := 1) (by rw [hA]; exact KC_st x) F (fun q hq => by rw [hA]; exact hq) (metJ2_get (gx_l g) x ad ds cm a q N m e hL hn i hi) hG (hh_recv F.k.1 hL.1 (F.k.c rfl)) (by decide +kernel) rfl hdd (by decide) hc hs hst hd (fun v w' hp => ?_)
  rw [hp.1, hp.2]
  exact kk
theorem cc_cast (F : Fx g cc nL own d mc ms (KC x)) {p ci index : Nat} {C : String} {T : u_T} {N : Nat} {fl : List (Option (Option Nat))} (hL : ds p = some (.inl (ci, fl))) (hc : clAll[ci]? = some (C, T, N)) (hlk : Cond.classLink own index C ∈ lw_all) (hd : decode cc pc = .ok (.checkcast index, 3))
    (kk : Wd (PicH x) g nL (ad, ds, cm) k n (pc + 3) lv (.ref (ad p) :: rest)) : Wd (PicH x) g nL (ad, ds, cm) k n pc lv (.ref (ad p) :: rest) := fun H locs ls hP hS hl => va_castS F.x F.b F.own (F.ts _ hlk) (F.k.1.1 ci _ (F.k.c hc)).2 (hh_recv F.k.1 hL (F.k.c hc) H hP) hd (kk H locs ls hP hS hl)
theorem cc_castI (F : Fx g cc nL own d mc ms (KC x)) {p index N : Nat} (hL : ds p = some (.inr (0, N, none))) (hlk : Cond.classLink own index "[I" ∈ lw_all) (hd : decode cc pc = .ok (.checkcast index, 3))
    (kk : Wd (PicH x) g nL (ad, ds, cm) k n (pc + 3) lv (.ref (ad p) :: rest)) : Wd (PicH x) g nL (ad, ds, cm) k n pc lv (.ref (ad p) :: rest) := fun H locs ls hP hS hl => va_castA F.x F.b F.own (F.ts _ hlk) (hw_one hP hL) 0 rfl (F.k.1.2.1 0 (by decide)).2 hd (kk H locs ls hP hS hl)
theorem cc_mounts (F : Fx g cc nL RX0 d mc ms (KC x)) (hA : gx_A g = hx_A x) (hds : FixD ds) {q : Nat} (hq : q = 124 ∨ q = 188) {o : Int32} (hdd : 3 ≤ d) (hc : k ≤ mc) (hs : n ≤ ms) (hst : (rest.map fun v => v.category).sum ≤ 8) (hd : decode cc pc = .ok (.invokevirtual 222, 3))
    (kk : Wd (PicH x) g nL (ad, ds, cm) k n (pc + 3) lv (.int (wy_m q o) :: rest)) : Wd (PicH x) g nL (ad, ds, cm) k n pc lv (.int o :: .ref (ad q) :: rest) := by
  rcases hq with e | e
  · subst e
    refine cab_U (C := RX11) (owner := RX11) (x := yX11_mounts) (N := 1) (As := [.int o]) (rest := rest) (by rw [hA]; exact KC_st x) F (fun q hq => by rw [hA]; exact hq) (metX11_mounts (PicH x) (KC x) (hx_A x) _ (gx_l g) (ad 124) o) q799 q802 q801 q800 q807 q800 q807 (by decide +kernel) (hh_recv F.k.1 (hds 124 _ rfl) (F.k.c rfl)) rfl (by omega) (by decide) hc hs rfl hst hd (fun v w' hp => ?_)
    rw [hp.1, hp.2]
    exact kk
  · subst e
    refine cab_U (C := RX10) (owner := RX11) (x := yX11_mounts) (N := 1) (As := [.int o]) (rest := rest) (by rw [hA]; exact KC_st x) F (fun q hq => by rw [hA]; exact hq) (metX10_mounts (gx_l g) x ad ds cm hds o) q799 q802 q803 q804 q805 q800 q807 (by decide +kernel) (hh_recv F.k.1 (hds 188 _ rfl) (F.k.c rfl)) rfl (by omega) (by decide) hc hs rfl hst hd (fun v w' hp => ?_)
    rw [hp.1, hp.2]
    exact kk
theorem cc_comes (F : Fx g cc nL RX0 d mc ms (KC x)) (hA : gx_A g = hx_A x) (hds : FixD ds) {q : Nat} (hq : q = 124 ∨ q = 188) {p : Prop} [Decidable p] (hdd : 2 ≤ d) (hc : k ≤ mc) (hs : n ≤ ms) (hst : (rest.map fun v => v.category).sum ≤ 8) (hd : decode cc pc = .ok (.invokevirtual 266, 3))
    (kk : Wd (PicH x) g nL (ad, ds, cm) k n (pc + 3) lv (.int (b2 (q = 124 ∨ p)) :: rest)) : Wd (PicH x) g nL (ad, ds, cm) k n pc lv (.int (b2 p) :: .ref (ad q) :: rest) := by
  rcases hq with e | e
  · subst e
    refine cab_U (C := RX11) (owner := RX11) (x := yX11_comes) (N := 1) (As := [.int (b2 p)]) (rest := rest) (by rw [hA]; exact KC_st x) F (fun q hq => by rw [hA]; exact hq) (metX11_comes (PicH x) (KC x) (hx_A x) _ (gx_l g) (ad 124) (b2 p)) q812 q815 q814 q813 q819 q813 q819 (by decide +kernel) (hh_recv F.k.1 (hds 124 _ rfl) (F.k.c rfl)) rfl (by omega) (by decide) hc hs rfl hst hd (fun v w' hp => ?_)
    rw [hp.1, hp.2]
    rw [b2_t (Or.inl rfl)] at kk
    exact kk
  · subst e
    refine cab_U (C := RX10) (owner := RX11) (x := yX11_comes) (N := 1) (As := [.int (b2 p)]) (rest := rest) (by rw [hA]; exact KC_st x) F (fun q hq => by rw [hA]; exact hq) (metX10_comes (PicH x) (KC x) (hx_A x) _ (gx_l g) (ad 188) p) q812 q815 q816 q817 q818 q813 q819 (by decide +kernel) (hh_recv F.k.1 (hds 188 _ rfl) (F.k.c rfl)) rfl (by omega) (by decide) hc hs rfl hst hd (fun v w' hp => ?_)
    rw [hp.1, hp.2]
    rw [b2_congr (show (188 = 124 ∨ p) ↔ p from ⟨fun z => z.resolve_left (by decide), Or.inr⟩)] at kk
    exact kk
theorem cc_hears (F : Fx g cc nL RX0 d mc ms (KC x)) (hA : gx_A g = hx_A x) (hds : FixD ds) {q : Nat} (hq : q = 61 ∨ q = 62) {o h : Int32} (hdd : 4 ≤ d) (hc : k ≤ mc) (hs : n ≤ ms) (hst : (rest.map fun v => v.category).sum ≤ 8) (hd : decode cc pc = .ok (.invokevirtual 230, 3))
    (kk : Wd (PicH x) g nL (ad, ds, cm) k n (pc + 3) lv (.int (er_h q o h) :: rest)) : Wd (PicH x) g nL (ad, ds, cm) k n pc lv (.int h :: .int o :: .ref (ad q) :: rest) := by
  rcases hq with e | e
  · subst e
    refine cab_U (C := RX9) (owner := RX9) (x := yX9_hears) (N := 2) (As := [.int o, .int h]) (rest := rest) (by rw [hA]; exact KC_st x) F (fun q hq => by rw [hA]; exact hq) (metX9_hears (PicH x) (KC x) (hx_A x) _ (gx_l g) (KC_st x) (ad 61) o h) q830 q833 q832 q831 q839 q831 q839 (by decide +kernel) (hh_recv F.k.1 (hds 61 _ rfl) (F.k.c rfl)) rfl (by omega) (by decide) hc hs rfl hst hd (fun v w' hp => ?_)
    rw [hp.1, hp.2]
    exact kk
  · subst e
    refine cab_U (C := RX12) (owner := RX9) (x := yX9_hears) (N := 2) (As := [.int o, .int h]) (rest := rest) (by rw [hA]; exact KC_st x) F (fun q hq => by rw [hA]; exact hq) (metX12_hears (gx_l g) x ad ds cm hds o h) q830 q833 q834 q835 q836 q831 q839 (by decide +kernel) (hh_recv F.k.1 (hds 62 _ rfl) (F.k.c rfl)) rfl (by omega) (by decide) hc hs rfl hst hd (fun v w' hp => ?_)
    rw [hp.1, hp.2]
    exact kk
theorem cc_takes (F : Fx g cc nL RX0 d mc ms (KC x)) (hA : gx_A g = hx_A x) (hds : FixD ds) {q : Nat} (hq : q = 61 ∨ q = 62) {h : Int32} (hdd : 3 ≤ d) (hc : k ≤ mc) (hs : n ≤ ms) (hst : (rest.map fun v => v.category).sum ≤ 8) (hd : decode cc pc = .ok (.invokevirtual 235, 3))
    (kk : Wd (PicH x) g nL (ad, ds, cm) k n (pc + 3) lv (.int (er_t q h) :: rest)) : Wd (PicH x) g nL (ad, ds, cm) k n pc lv (.int h :: .ref (ad q) :: rest) := by
  rcases hq with e | e
  · subst e
    refine cab_U (C := RX9) (owner := RX9) (x := yX9_takes) (N := 1) (As := [.int h]) (rest := rest) (by rw [hA]; exact KC_st x) F (fun q hq => by rw [hA]; exact hq) (metX9_takes (PicH x) (KC x) (hx_A x) _ (gx_l g) (ad 61) h) q841 q844 q843 q842 q849 q842 q849 (by decide +kernel) (hh_recv F.k.1 (hds 61 _ rfl) (F.k.c rfl)) rfl (by omega) (by decide) hc hs rfl hst hd (fun v w' hp => ?_)
    rw [hp.1, hp.2]
    exact kk
  · subst e
    refine cab_U (C := RX12) (owner := RX9) (x := yX9_takes) (N := 1) (As := [.int h]) (rest := rest) (by rw [hA]; exact KC_st x) F (fun q hq => by rw [hA]; exact hq) (metX12_takes (gx_l g) x ad ds cm hds h) q841 q844 q845 q846 q847 q842 q849 (by decide +kernel) (hh_recv F.k.1 (hds 62 _ rfl) (F.k.c rfl)) rfl (by omega) (by decide) hc hs rfl hst hd (fun v w' hp => ?_)
    rw [hp.1, hp.2]
    exact kk
theorem cc_gets (F : Fx g cc nL own d mc ms (KC x)) (hA : gx_A g = hx_A x) {q index : Nat} {nm ds' : String} (hZ : va_Z RX0 nm ds' (.ref (hx_sa x q)) (hx_A x) (gx_s g) (gx_s g).heap) (hq : 60 ≤ q % 64) (hlk : Cond.fieldLink own index RX0 nm ds' ∈ lw_all) (hd : decode cc pc = .ok (.getstatic index, 3))
    (kk : Wd (PicH x) g nL (ad, ds, cm) k n (pc + 3) lv (.ref (ad q) :: rest)) : Wd (PicH x) g nL (ad, ds, cm) k n pc lv rest := fun H locs ls hP hS hl => by
  have e : ad q = hx_sa x q := hP.2.2.2.2.2 q hq
  have kk' := kk H locs ls hP hS hl
  rw [e] at kk'
  exact va_gets F.x F.b (by rw [hA]; exact hZ) hS F.own (F.ts _ hlk) (fun _ h => h) hd kk'
theorem co_cV {index : Nat} {y : MethodName} {bytes : ByteArray} {maxL d' N : Nat} {ret : Option FieldType} {As st0 : List Value} {r : Option Value} {cm' : Mem} (F : Fx g cc nL RX0 d mc ms (KC x)) (hA : gx_A g = hx_A x) (hds : FixD ds)
    (hM : Cn (gx_l g) y (ws_ y bytes maxL ret) d' 0 0 (.ref (ad 0) :: As) (PicH x) (KC x) (hx_A x) (ad, ds, cm) (fun v w' => v = r ∧ w' = (ad, ds, cm')))
    (hG : GoodIn lw_all (wsV RX0 index RX0 y (ws_ y bytes maxL ret)))
    (hd : y.cls = RX0 ∧ y.cls ≠ "java/lang/invoke/MethodHandle" ∧ y.cls ≠ "java/lang/invoke/VarHandle" ∧ (parseMethodDescriptor y.desc).map (fun d => d.parameters.length) = some N)
    (hN : As.length = N) (hdd : d' + 1 ≤ d) (hml : maxL ≤ 21) (hc : k ≤ mc) (hs : n ≤ ms) (hst0 : st0 = As.reverse ++ .ref (ad 0) :: rest) (hst : (rest.map fun v => v.category).sum ≤ 8) (hdg : decode cc pc = .ok (.invokevirtual index, 3))
    (kk : Wd (PicH x) g nL (ad, ds, cm') k n (pc + 3) lv (r.toList ++ rest)) : Wd (PicH x) g nL (ad, ds, cm) k n pc lv st0 := by
  subst hst0
  exact ca_V (by rw [hA]; exact KC_st x) F (fun q hq => by rw [hA]; exact hq) hM hG (hh_recv F.k.1 (hds 0 _ rfl) (F.k.c rfl)) hd hN hdd hml hc hs hst hdg (fun v w' h => by rw [h.1, h.2]; exact kk)
theorem co_cS {index : Nat} {y : MethodName} {bytes : ByteArray} {maxL d' N : Nat} {ret : Option FieldType} {As st0 : List Value} {r : Option Value} (F : Fx g cc nL own d mc ms (KC x)) (hA : gx_A g = hx_A x)
    (hM : Cn (gx_l g) y (ws_ y bytes maxL ret) d' 0 0 As (PicH x) (KC x) (hx_A x) (ad, ds, cm) (fun v w' => v = r ∧ w' = (ad, ds, cm)))
    (hG : GoodIn lw_all (va_wsS own index y (ws_ y bytes maxL ret)))
    (hd : y.cls ≠ "java/lang/invoke/MethodHandle" ∧ y.cls ≠ "java/lang/invoke/VarHandle" ∧ (parseMethodDescriptor y.desc).map (fun d => d.parameters.length) = some N)
    (hN : As.length = N) (hdd : d' + 1 ≤ d) (hml : maxL ≤ 21) (hc : k ≤ mc) (hs : n ≤ ms) (hst0 : st0 = As.reverse ++ rest) (hst : (rest.map fun v => v.category).sum ≤ 8) (hdg : decode cc pc = .ok (.invokestatic index, 3))
    (kk : Wd (PicH x) g nL (ad, ds, cm) k n (pc + 3) lv (r.toList ++ rest)) : Wd (PicH x) g nL (ad, ds, cm) k n pc lv st0 := by
  subst hst0
  exact ca_S (by rw [hA]; exact KC_st x) F (fun q hq => by rw [hA]; exact hq) hM hG hd hN hdd hml hc hs hst hdg (fun v w' h => by rw [h.1, h.2]; exact kk)
end CR
theorem or01 {z : Int32} {p : Prop} [Decidable p] (h : z = 0 ∨ z = 1) : (z ||| b2 p) = 0 ∨ (z ||| b2 p) = 1 := by
  by_cases hp : p
  · rw [b2_t hp]; rcases h with e | e <;> subst e <;> decide
  · rw [b2_f hp]; rcases h with e | e <;> subst e <;> decide
theorem nar01 {z : Int32} (h : z = 0 ∨ z = 1) : narrow .boolean (.int z) = .int z := by
  rcases h with e | e <;> subst e <;> rfl
