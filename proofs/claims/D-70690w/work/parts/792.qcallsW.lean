/-! calls, over the lazy world, of methods with handlers -/
section QWW
variable {x : Hx} {M : Bool × Bool} {g : Gx} {cc : ByteArray} {nL : Nat} {own : String} {d mc ms : Nat} {ad : Nat → Nat} {ds : Nat → Option Lay} {cm : Mem} {k n pc : Nat} {lv : Lv} {rest : List Value}
theorem hq_cVW {index : Nat} {y : MethodName} {bytes : ByteArray} {maxL d' c' e' N : Nat} {ret : Option FieldType} {hh : List (Nat × Nat × Nat × Nat)} {As st0 : List Value} {r : Option Value} {cm' : Mem} (F : Fx g cc nL RX0 d mc ms (KC x)) (hA : gx_A g = hx_A x)
    (hM : Cn (gx_l g) y (wsW_ y bytes maxL ret hh) d' c' e' (.ref (ad 0) :: As) (PicQ x M) (KC x) (hx_A x) (ad, ds, cm) (fun v w' => v = r ∧ w' = (ad, ds, cm')))
    (hG : GoodIn lw_all (wsV RX0 index RX0 y (wsW_ y bytes maxL ret hh)))
    (hd : y.cls = RX0 ∧ y.cls ≠ "java/lang/invoke/MethodHandle" ∧ y.cls ≠ "java/lang/invoke/VarHandle" ∧ (parseMethodDescriptor y.desc).map (fun d => d.parameters.length) = some N)
    (hN : As.length = N) (hdd : d' + 1 ≤ d) (hml : maxL ≤ 21) (hc : k + c' ≤ mc) (hs : n + e' ≤ ms) (hst0 : st0 = As.reverse ++ .ref (ad 0) :: rest) (hst : (rest.map fun v => v.category).sum ≤ 8) (hdg : decode cc pc = .ok (.invokevirtual index, 3))
    (kk : Wd (PicQ x M) g nL (ad, ds, cm') (k + c') (n + e') (pc + 3) lv (r.toList ++ rest)) : Wd (PicQ x M) g nL (ad, ds, cm) k n pc lv st0 := by
  subst hst0
  refine ca_VW (by rw [hA]; exact KC_st x) F (fun q hq => by rw [hA]; exact hq) hM hG (fun H hP => ?_) hd hN hdd hml hc hs hst hdg (fun v w' h => by rw [h.1, h.2]; exact kk)
  obtain ⟨ad', ds', cm'', h1, h2⟩ := hP
  have e0 : ad' 0 = ad 0 := h2.1 0 (nhd (by decide))
  rw [← e0]
  exact hh_recv F.k.1 (h2.2.2.2.1 0 _ rfl) (F.k.c rfl) H h1
end QWW
