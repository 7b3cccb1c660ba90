/-! MORE CALLS OVER Wd: inherited and overriding methods, super, constructors; answers that are references -/
section CB
variable {α : Type} {Pic : α → Heap → Prop} {g : Gx} {cc : ByteArray} {nL : Nat} {own : String} {d mc ms : Nat} {K : State → Prop} {w : α} {k n pc : Nat} {lv : Lv} {rest : List Value}
theorem rm_ok {d' maxL mc' ms' : Nat} (F : Fx g cc nL own d mc ms K) (hdd : d' + 1 ≤ d) (hml : maxL ≤ 21) : (rm_ d' mc' ms').frames + 1 ≤ (gx_R g).frames ∧ 8 + (maxL + 11) + (rm_ d' mc' ms').locals ≤ (gx_R g).locals := by
  refine ⟨Nat.le_trans hdd F.fr, ?_⟩
  have h1 := F.lo
  show 8 + (maxL + 11) + 40 * d' ≤ _
  omega
theorem ca_U {C owner : String} {index : Nat} {x y : MethodName} {bytes : ByteArray} {maxL d' mc' ms' N : Nat} {ret : Option FieldType} {b : Nat} {As st0 : List Value} {A : Nat → Prop} {post : Option Value → α → Prop} (hKs : Kst (gx_A g) K) (F : Fx g cc nL own d mc ms K) (hA : ∀ q, A q → gx_A g q)
    (hM : Cn (gx_l g) y (ws_ y bytes maxL ret) d' mc' ms' (.ref b :: As) Pic K A w post)
    (hcu : ((rm_ d' mc' ms').frames + 1 ≤ (gx_R g).frames ∧ 8 + (maxL + 11) + (rm_ d' mc' ms').locals ≤ (gx_R g).locals) → va_CU (gx_R g) (gx_s g) (gx_a g) own C owner index x y bytes maxL ret (ws_ y bytes maxL ret) (rm_ d' mc' ms') mc' ms' N)
    (hrecv : ∀ H, Pic w H → ∃ cell : Cell, H[b]? = some cell ∧ cell.vm.isStatics = false ∧ (gx_s g).vm.findClass C = some cell.cls)
    (hN : As.length = N) (hdd : d' + 1 ≤ d) (hml : maxL ≤ 21) (hc : k + mc' ≤ mc) (hs : n + ms' ≤ ms) (hst0 : st0 = As.reverse ++ .ref b :: rest) (hst : (rest.map fun v => v.category).sum ≤ 8) (hdg : decode cc pc = .ok (.invokevirtual index, 3))
    (kk : ∀ (v : Option Value) (w' : α), post v w' → Wd Pic g nL w' (k + mc') (n + ms') (pc + 3) lv (v.toList ++ rest)) : Wd Pic g nL w k n pc lv st0 := by
  subst hst0
  refine ca_go (a := (Value.ref b :: As).toArray) hA (fun H locs ls hP hS hl => ?_) kk
  exact va_runU (Ts := lw_all) ⟨F.x, F.b, F.ml, F.own, F.ts⟩ hM (hcu (rm_ok F hdd hml)) ⟨fun a U g' mk q => ⟨q.1, q.2.1, hKs U _ (State.WarmedH.refl U) (fun _ _ _ => rfl) q.2.2⟩, hrecv H hP, fun U hU hW => ⟨rfl, by rw [hU]; exact hP, hKs _ _ hW (fun q h1 h2 => by rw [hU]; exact hS.2.1 q h1 h2) F.k⟩⟩ rfl hN hl.1 rfl (lv_room hst) hdg ⟨Nat.le_trans hc F.ce, Nat.le_trans hs F.sl⟩
theorem ca_P {C : String} {cC : ClassId} {index : Nat} {y : MethodName} {bytes : ByteArray} {maxL d' mc' ms' N : Nat} {ret : Option FieldType} {b : Nat} {As st0 : List Value} {A : Nat → Prop} {post : Option Value → α → Prop} (hKs : Kst (gx_A g) K) (F : Fx g cc nL own d mc ms K) (hA : ∀ q, A q → gx_A g q) (hat : ClassAt (gx_s g) C cC)
    (hM : Cn (gx_l g) y (ws_ y bytes maxL ret) d' mc' ms' (.ref b :: As) Pic K A w post)
    (hG : GoodIn lw_all (va_wsSU own index y (ws_ y bytes maxL ret)))
    (hrecv : ∀ H, Pic w H → ∃ cell : Cell, H[b]? = some cell ∧ cell.vm.isStatics = false ∧ (gx_s g).vm.findClass C = some cell.cls)
    (hd : y.name ≠ "<init>" ∧ (parseMethodDescriptor y.desc).map (fun d => d.parameters.length) = some N)
    (hN : As.length = N) (hdd : d' + 1 ≤ d) (hml : maxL ≤ 21) (hc : k + mc' ≤ mc) (hs : n + ms' ≤ ms) (hst0 : st0 = As.reverse ++ .ref b :: rest) (hst : (rest.map fun v => v.category).sum ≤ 8) (hdg : decode cc pc = .ok (.invokespecial index, 3))
    (kk : ∀ (v : Option Value) (w' : α), post v w' → Wd Pic g nL w' (k + mc') (n + ms') (pc + 3) lv (v.toList ++ rest)) : Wd Pic g nL w k n pc lv st0 := by
  subst hst0
  refine ca_go (a := (Value.ref b :: As).toArray) hA (fun H locs ls hP hS hl => ?_) kk
  exact va_runSU (Ts := lw_all) hat ⟨F.x, F.b, F.ml, F.own, F.ts⟩ hM (va_cwSU N F.ts hG rfl rfl rfl hd (rm_ok F hdd hml)) ⟨fun a U g' mk q => ⟨q.1, q.2.1, hKs U _ (State.WarmedH.refl U) (fun _ _ _ => rfl) q.2.2⟩, hrecv H hP, fun U hU hW => ⟨rfl, by rw [hU]; exact hP, hKs _ _ hW (fun q h1 h2 => by rw [hU]; exact hS.2.1 q h1 h2) F.k⟩⟩ rfl hN hl.1 rfl (lv_room hst) hdg ⟨Nat.le_trans hc F.ce, Nat.le_trans hs F.sl⟩
/-- a constructor's call -/
theorem ca_I {index : Nat} {y : MethodName} {bytes : ByteArray} {maxL d' mc' ms' N : Nat} {b : Nat} {As st0 : List Value} {A : Nat → Prop} {post : Option Value → α → Prop} (hKs : Kst (gx_A g) K) (F : Fx g cc nL own d mc ms K) (hA : ∀ q, A q → gx_A g q)
    (hM : Cn (gx_l g) y (ws_ y bytes maxL none) d' mc' ms' (.ref b :: As) Pic K A w post)
    (hcode : Cond.code y bytes maxL none ∈ lw_all) (hini : Cond.initialized y.cls ∈ lw_all) (hlk : Cond.methodLink own index y ∈ lw_all) (hins : Cond.instanceMethod y ∈ lw_all) (hy : y.name = "<init>")
    (hd : y.cls ≠ "java/lang/invoke/MethodHandle" ∧ y.cls ≠ "java/lang/invoke/VarHandle" ∧ (parseMethodDescriptor y.desc).map (fun d => d.parameters.length) = some N)
    (hN : As.length = N) (hdd : d' + 1 ≤ d) (hml : maxL ≤ 21) (hc : k + mc' ≤ mc) (hs : n + ms' ≤ ms) (hst0 : st0 = As.reverse ++ .ref b :: rest) (hst : (rest.map fun v => v.category).sum ≤ 8) (hdg : decode cc pc = .ok (.invokespecial index, 3))
    (kk : ∀ (v : Option Value) (w' : α), post v w' → Wd Pic g nL w' (k + mc') (n + ms') (pc + 3) lv (v.toList ++ rest)) : Wd Pic g nL w k n pc lv st0 := by
  subst hst0
  refine ca_go (a := (Value.ref b :: As).toArray) hA (fun H locs ls hP hS hl => ?_) kk
  exact va_runI (Ts := lw_all) ⟨F.x, F.b, F.ml, F.own, F.ts⟩ hM (cwI N F.ts (lw_meth hcode) rfl rfl rfl (F.ts _ hini) (F.ts _ hlk) (F.ts _ hins) hy hd (rm_ok F hdd hml)) ⟨fun a U g' mk q => ⟨q.1, q.2.1, hKs U _ (State.WarmedH.refl U) (fun _ _ _ => rfl) q.2.2⟩, fun U hU hW => ⟨rfl, by rw [hU]; exact hP, hKs _ _ hW (fun q h1 h2 => by rw [hU]; exact hS.2.1 q h1 h2) F.k⟩⟩ rfl hN hl.1 rfl (lv_room hst) hdg ⟨Nat.le_trans hc F.ce, Nat.le_trans hs F.sl⟩
theorem ro_null (F : Fx g cc nL own d mc ms K) (hd : decode cc pc = .ok (.aconst_null, 1)) (kk : Wd Pic g nL w k n (pc + 1) lv (.null :: rest)) : Wd Pic g nL w k n pc lv rest := fun H locs ls hP hS hl => lv_null F.x F.b hd (kk H locs ls hP hS hl)
end CB
section CA2
variable {α : Type} {Pic : α → Heap → Prop} {cc : ByteArray} {nL : Nat} {own : String} {d mc ms : Nat} {K : State → Prop} {A : Nat → Prop} {w : α}
theorem ret_a {g : Gx} {rt : FieldType} (hrt : (∃ n, rt = .object n) ∨ ∃ t, rt = .array t) {post : Option Value → α → Prop} (F : Fx g cc nL own d mc ms K) (hr : (gx_me g).sig.returnType = some rt) (hA : gx_A g = A) (hQ : gx_Q g = MQ (gx_b g) (Qc_ Pic A post) (gx_a g) (gx_s g) mc ms A) :
    ∀ (w' : α) (k n pc : Nat) (lv : Lv) (a : Nat), k ≤ mc → n ≤ ms → decode cc pc = .ok (.areturn, 1) → post (some (.ref a)) w' → Wd Pic g nL w' k n pc lv [.ref a] := by
  intro w' k n pc lv a hk hn hd hp H locs ls hP hS hl
  refine W.widen hk hn ?_
  rw [hA] at hS
  have hlk := F.lk
  show W (gx_p g) (gx_l g) (gx_e g) (gx_R g) (gx_s g) (gx_m g) (gx_a g) (gx_b g) (gx_me g) (gx_c g) H locs mc ms (gx_Q g) _
  rw [hQ]
  exact W.aret (v := .ref a) F.x F.b hr hrt (Or.inr ⟨a, rfl⟩) (fun t ht hW => ⟨⟨_, w', rfl, hp, by rw [ht]; exact hP⟩, hS.F ht⟩) hS.2.2 hd
theorem cn_a {l : Launch} {y : MethodName} {rt : FieldType} (hrt : (∃ n, rt = .object n) ∨ ∃ t, rt = .array t) {as : List Value} {post : Option Value → α → Prop} (hy : plainName y.cls = true) (hn : (lg_sl as).length ≤ nL) (hown : y.cls = own)
    (body : ∀ g : Gx, gx_l g = l → gx_A g = A → Fx g cc nL own d mc ms K → (∀ (w' : α) (k n pc : Nat) (lv : Lv) (a : Nat), k ≤ mc → n ≤ ms → decode cc pc = .ok (.areturn, 1) → post (some (.ref a)) w' → Wd Pic g nL w' k n pc lv [.ref a]) → Wd Pic g nL w 0 0 0 (lv_args 0 as) []) : Cn l y (ws_ y cc nL (some rt)) d mc ms as Pic K A w post :=
  cn_start hy rfl (fun w h => List.mem_cons_of_mem _ h) hn hown (fun g hl F hr hA hQ _ _ _ => body g hl hA F (ret_a hrt F hr hA hQ))
end CA2
section CF2
variable {α : Type} {Pic : α → Heap → Prop} {cc : ByteArray} {nL : Nat} {own : String} {d mc ms : Nat} {K : State → Prop} {A : Nat → Prop} {w : α}
/-- the start of a contract's proof for a method of a class some of whose methods the machine has as natives -/
theorem cnF_i {l : Launch} {y : MethodName} {ty : FieldType} {as : List Value} {post : Option Value → α → Prop} (hy : plainFor y = true) (hn : (lg_sl as).length ≤ nL) (hown : y.cls = own)
    (body : ∀ g : Gx, gx_l g = l → gx_A g = A → Fx g cc nL own d mc ms K → RetI g cc nL Pic post ty mc ms → Wd Pic g nL w 0 0 0 (lv_args 0 as) []) : Cn l y (ws_ y cc nL (some ty)) d mc ms as Pic K A w post := by
  refine va_MetF (cc := cc) (maxL := nL) (ret := some ty) hy rfl ?_
  intro p e s m args below meth c s₁ B hml hv
  obtain ⟨rfl, hP, hK⟩ := hv
  have hts := atoms_spec (ws := ws_ y cc nL (some ty)) B.pre
  have hts : ∀ w ∈ lw_all, w.before _ s = true := fun w h => hts w (List.mem_cons_of_mem _ h)
  have hwn : s.vm.findClass y.cls = some m.cls := findClass_of_methodNamed B.named
  have hl := lv_entry as (n := nL) hn
  rw [lg_entry_eq]
  have F : Fx (p, l, e, (headSpec (ws_ y cc nL (some ty)) (rm_ d mc ms)).room, s, m, as.toArray, below, meth, c, A, MQ below (Qc_ Pic A post) as.toArray s mc ms A) cc nL own d mc ms K :=
    ⟨B.exec, B.bytes, hml, by rw [← hown]; exact hwn, hts, B.notSynchronized, Nat.le_refl _, Nat.le_refl _, Nat.le_refl _, Nat.le_refl _, hK⟩
  exact body _ rfl rfl F (ret_i F B.returns rfl rfl) s.heap [] _ hP va_S.rf hl
end CF2
