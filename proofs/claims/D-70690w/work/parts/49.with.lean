/-! METHODS WITH AN EXCEPTION TABLE: start of a contract's proof, and calls -/
section WS
variable {α : Type} {Pic : α → Heap → Prop} {cc : ByteArray} {nL : Nat} {own : String} {d mc ms : Nat} {K : State → Prop} {A : Nat → Prop} {w : α}
theorem cn_startW {l : Launch} {y : MethodName} {ret : Option FieldType} {hh : List (Nat × Nat × Nat × Nat)} {ws ws' : List Cond} {as : List Value} {post : Option Value → α → Prop} (hy : plainName y.cls = true) (hw : ws = Cond.codeWith y cc nL ret hh :: ws') (hws : ∀ w ∈ lw_all, w ∈ ws) (hn : (lg_sl as).length ≤ nL) (hown : y.cls = own)
    (body : ∀ g : Gx, gx_l g = l → Fx g cc nL own d mc ms K → (gx_me g).sig.returnType = ret → gx_A g = A → gx_Q g = MQ (gx_b g) (Qc_ Pic A post) (gx_a g) (gx_s g) mc ms A → Wd Pic g nL w 0 0 0 (lv_args 0 as) []) :
    Cn l y ws d mc ms as Pic K A w post := by
  refine va_MetW (cc := cc) (maxL := nL) (ret := ret) hy hw ?_
  intro p e s m args below meth c s₁ B hml hv
  obtain ⟨rfl, hP, hK⟩ := hv
  have hts := atoms_spec (ws := ws) B.pre
  have hts : ∀ w ∈ lw_all, w.before _ s = true := fun w h => hts w (hws w h)
  have hwn : s.vm.findClass y.cls = some m.cls := findClass_of_methodNamed B.named
  have hl := lv_entry as (n := nL) hn
  rw [lg_entry_eq]
  exact body (p, l, e, (headSpec ws (rm_ d mc ms)).room, s, m, as.toArray, below, meth, c, A, MQ below (Qc_ Pic A post) as.toArray s mc ms A) rfl
    ⟨B.exec, B.bytes, hml, by rw [← hown]; exact hwn, hts, B.notSynchronized, Nat.le_refl _, Nat.le_refl _, Nat.le_refl _, Nat.le_refl _, hK⟩ B.returns rfl rfl s.heap [] _ hP va_S.rf hl
theorem cnw_i {l : Launch} {y : MethodName} {ty : FieldType} {hh : List (Nat × Nat × Nat × Nat)} {as : List Value} {post : Option Value → α → Prop} (hy : plainName y.cls = true) (hn : (lg_sl as).length ≤ nL) (hown : y.cls = own)
    (body : ∀ g : Gx, gx_l g = l → gx_A g = A → Fx g cc nL own d mc ms K → RetI g cc nL Pic post ty mc ms → Wd Pic g nL w 0 0 0 (lv_args 0 as) []) : Cn l y (wsW_ y cc nL (some ty) hh) d mc ms as Pic K A w post :=
  cn_startW hy rfl (fun w h => List.mem_cons_of_mem _ h) hn hown (fun g hl F hr hA hQ => body g hl hA F (ret_i F hr hA hQ))
theorem cnw_l {l : Launch} {y : MethodName} {hh : List (Nat × Nat × Nat × Nat)} {as : List Value} {post : Option Value → α → Prop} (hy : plainName y.cls = true) (hn : (lg_sl as).length ≤ nL) (hown : y.cls = own)
    (body : ∀ g : Gx, gx_l g = l → gx_A g = A → Fx g cc nL own d mc ms K → RetL g cc nL Pic post mc ms → Wd Pic g nL w 0 0 0 (lv_args 0 as) []) : Cn l y (wsW_ y cc nL (some .long) hh) d mc ms as Pic K A w post :=
  cn_startW hy rfl (fun w h => List.mem_cons_of_mem _ h) hn hown (fun g hl F hr hA hQ => body g hl hA F (ret_l F hr hA hQ))
end WS
section WC
variable {p : Program} {l : Launch} {e : Env} {R : Room} {s : State} {m : MethodId} {args : Array Value} {below : List Frame} {meth : Method} {c : Code} {H : Heap} {locs : List Loc} {cells slots : Nat} {T : State}
theorem callVW (X : Stand p l e R s m args below meth c T locs cells slots) (hexec : p.tables.exec = Jvm.exec) {own C : String} {index : Nat} {y : MethodName} {bytes : ByteArray} {maxL : Nat} {ret : Option FieldType} {hh : List (Nat × Nat × Nat × Nat)}
    (hown : s.vm.findClass own = some m.cls) (hlink : (Cond.methodLink own index y).before args s = true) (hinst : (Cond.instanceMethod y).before args s = true) (hsel : (Cond.selects C y y).before args s = true)
    (hcode : (Cond.codeWith y bytes maxL ret hh).before args s = true) (hy : y.cls ≠ "java/lang/invoke/MethodHandle" ∧ y.cls ≠ "java/lang/invoke/VarHandle")
    {W : Nat} {Pre : Pt → Array Value → Prop} {Post : Pt → Array Value → Option Value → Pt → Prop} (hK : Back l R p e below s args y 3 W Pre Post)
    {b : Addr} {cellB : Cell} (hcell : T.heap[b]? = some cellB) (hobj : cellB.vm.isStatics = false) (hcls : s.vm.findClass C = some cellB.cls)
    {g : JFrame} (hg : g.method = m) (hsize : g.locals.size = c.maxLocals) {argsL rest : List Value} (hlen : ∀ sig, parseMethodDescriptor y.desc = some sig → argsL.length = sig.parameters.length)
    (hstack : g.stack = argsL.reverse ++ .ref b :: rest) (hW : 2 * g.monitorRoom + (rest.map fun v => v.category).sum ≤ W) (hdg : decode c.code g.pc = .ok (.invokevirtual index, 3))
    (hpre : ∀ vm₁, s.WarmedH vm₁ → Pre ⟨T.setVm vm₁, locs, cells, slots⟩ (Value.ref b :: argsL).toArray) :
    ∃ (v : Option Value) (vm₁ : Vm) (B : Pt), s.WarmedH vm₁ ∧ Stand p l e R s m args below meth c B.U B.locs B.cells B.slots ∧ Post ⟨T.setVm vm₁, locs, cells, slots⟩ (Value.ref b :: argsL).toArray v B ∧
      ∀ target, Steps p.tables e below (B.U.setTop { g with pc := g.pc + 3, stack := v.toList ++ rest }) target → Steps p.tables e below (T.setTop g) target := by
  obtain ⟨mk, methM, hnamed, hmethM, hstM, habM⟩ := Cond.instanceMethod_spec hinst
  obtain ⟨m9, methM', cM, hn9, hmethM', -, -, -, -, -, -, hsigM⟩ := Cond.codeWith_spec hcode
  cases hnamed.symm.trans hn9
  cases hmethM.symm.trans hmethM'
  obtain ⟨c2, r2, m2, q1, q2, q3, q4, kP, hkP, hkPi⟩ := Cond.selects_spec hsel
  cases hcls.symm.trans q1
  cases (State.methodFound?_of_named hnamed hy).symm.trans q2
  cases hnamed.symm.trans q3
  have hselP : selectMethod e.platform s.vm cellB.cls mk = .method mk := by rw [Launch.admits_selectMethod X.admits]; exact q4
  obtain ⟨vm₁, X₁, hstep₁⟩ := X.invokevirtual hexec hown hlink hnamed hmethM hstM hkP hkPi hy (a := b) (cell := cellB) hcell
    (fun z h => by rw [h] at hobj; cases hobj) hselP hmethM habM hkP hkPi (g := g) hg (argsL := argsL) (rest := rest) (hlen _ hsigM) hstack hdg
  obtain ⟨v, B, X', hpost, hsteps⟩ := hK m meth c ⟨T.setVm vm₁, locs, cells, slots⟩ { g with stack := rest } (.invokevirtual index) mk (Value.ref b :: argsL).toArray X₁ hg hsize hdg hW (X₁.named hnamed) (hpre vm₁ X₁.warmed)
  exact ⟨v, vm₁, B, X₁.warmed, X', hpost, fun target h => hstep₁ _ fun acts => by rw [doInvoke_state]; exact hsteps.trans h⟩
end WC
section CW
variable {α : Type} {Pic : α → Heap → Prop} {g : Gx} {cc : ByteArray} {nL : Nat} {own : String} {d mc ms : Nat} {K : State → Prop} {w : α} {k n pc : Nat} {lv : Lv} {rest : List Value}
/-- a call through an object of the class C of which y (with handlers) is a method -/
theorem ca_VW {C : String} {index : Nat} {y : MethodName} {bytes : ByteArray} {maxL d' mc' ms' N : Nat} {ret : Option FieldType} {hh : List (Nat × Nat × Nat × Nat)} {b : Nat} {As : List Value} {A : Nat → Prop} {post : Option Value → α → Prop} (hKs : Kst (gx_A g) K) (F : Fx g cc nL own d mc ms K) (hA : ∀ q, A q → gx_A g q)
    (hM : Cn (gx_l g) y (wsW_ y bytes maxL ret hh) d' mc' ms' (.ref b :: As) Pic K A w post)
    (hG : GoodIn lw_all (wsV own index C y (wsW_ y bytes maxL ret hh)))
    (hrecv : ∀ H, Pic w H → ∃ cell : Cell, H[b]? = some cell ∧ cell.vm.isStatics = false ∧ (gx_s g).vm.findClass C = some cell.cls)
    (hd : y.cls = C ∧ y.cls ≠ "java/lang/invoke/MethodHandle" ∧ y.cls ≠ "java/lang/invoke/VarHandle" ∧ (parseMethodDescriptor y.desc).map (fun d => d.parameters.length) = some N)
    (hN : As.length = N) (hdd : d' + 1 ≤ d) (hml : maxL ≤ 21) (hc : k + mc' ≤ mc) (hs : n + ms' ≤ ms) (hst : (rest.map fun v => v.category).sum ≤ 8) (hdg : decode cc pc = .ok (.invokevirtual index, 3))
    (kk : ∀ (v : Option Value) (w' : α), post v w' → Wd Pic g nL w' (k + mc') (n + ms') (pc + 3) lv (v.toList ++ rest)) : Wd Pic g nL w k n pc lv (As.reverse ++ .ref b :: rest) := by
  refine ca_go (a := (Value.ref b :: As).toArray) hA (fun H locs ls hP hS hl => ?_) kk
  have ok : ∀ w ∈ wsV own index C y (wsW_ y bytes maxL ret hh), w.before (gx_a g) (gx_s g) = true := fun w h => F.ts w (hG w h).1
  have hG2 : GoodIn lw_all (wsW_ y bytes maxL ret hh) := fun w h => hG w (by unfold wsV; exact List.mem_append_right _ h)
  have hini : (Cond.initialized y.cls).before (gx_a g) (gx_s g) = true := by rw [hd.1]; exact ok _ (by simp [wsV])
  have hlo := F.lo
  have hK : Back (gx_l g) (gx_R g) (gx_p g) (gx_e g) (gx_b g) (gx_s g) (gx_a g) y 3 8 (PreOf (gx_R g) mc' ms' (fun v U => v = (Value.ref b :: As).toArray ∧ Pic w U.heap ∧ K U)) (PostOf (Qc_ Pic A post) mc' ms' A) :=
    va_backW (hh := hh) (bytes := bytes) (maxL := maxL) (ret := ret) hM (fun a U g' mk q => ⟨q.1, q.2.1, hKs U _ (State.WarmedH.refl U) (fun _ _ _ => rfl) q.2.2⟩) rfl rfl (Nat.le_trans hdd F.fr) (by show 8 + (maxL + 11) + 40 * d' ≤ _; omega) (pay_in F.ts hG2) List.mem_cons_self (fun a' U hW => word_at hW (Or.inl (by first | rfl | simp [Cond.onTables, Cond.keeps, Cond.steady])) hini)
  obtain ⟨cellB, hcB, hoB, hclB⟩ := hrecv H hP
  intro T hT X
  have hsz : ls.size = (gx_c g).maxLocals := by rw [F.ml]; exact hl.1
  have hdl : ∀ sig, parseMethodDescriptor y.desc = some sig → As.length = sig.parameters.length := fun sig h => by
    have h2 := hd.2.2.2
    rw [h] at h2
    exact hN.trans (Option.some.inj h2).symm
  obtain ⟨v, vm₁, ⟨U', l2, c2, s2⟩, hW₁, X', ⟨g', mk, t, L, e1, e2, hq, h1, hL, h2, h3⟩, st⟩ := callVW X F.x (C := C) (index := index) (hh := hh) (bytes := bytes) (maxL := maxL) (ret := ret) F.own (ok _ (by simp [wsV])) (ok _ (by simp [wsV])) (ok _ (by simp [wsV])) (ok _ (by simp [wsV])) ⟨hd.2.1, hd.2.2.1⟩ hK (by rw [hT]; exact hcB) hoB hclB (g := F0 (gx_m g) pc ls (As.reverse ++ .ref b :: rest)) rfl hsz (argsL := As) (rest := rest) hdl rfl (lv_room hst) (by rw [F.b]; exact hdg)
    (fun vm₁ hW₁ => ⟨Nat.le_trans hc F.ce, Nat.le_trans hs F.sl, rfl, by show Pic w T.heap; rw [hT]; exact hP, hKs _ _ hW₁ (fun q h1 h2 => by show T.heap[q]? = _; rw [hT]; exact hS.2.1 q h1 h2) F.k⟩)
  dsimp only [Pt.U, Pt.locs, Pt.cells, Pt.slots] at X' e1 e2 h1 h2 h3 st
  subst h1; subst h2; subst h3
  exact ⟨v, (T.setVm vm₁).calling g' mk (Value.ref b :: As).toArray, t, U', L, hT, X', hL, e1, e2, hq, st⟩
end CW
