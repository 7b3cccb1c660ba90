/-! CAUGHT: the thrown state over a frame of a method with handlers comes to the handler -/
theorem xt_yes {Q : Handler → Pre} {E : CtlPost} {e : Env} {d : Bool} {acts : List Action} {u : State} {f : JFrame} {a : Addr} {y : ExceptionTableEntry} {ys : List ExceptionTableEntry} {c : ClassId} {cell : Cell} (hy : covers y f.pc = true) (h0 : y.catchType ≠ 0)
    (hl : u.vm.ClassLinks e.platform f.method.cls y.catchType c) (hcell : u.heap[a]? = some cell) (hobj : ∀ k, cell.vm ≠ .statics k) (hk : ∃ k, u.vm.classes[cell.cls]? = some k) (hc : ∃ k, u.vm.classes[c]? = some k) (hfit : u.vm.assignable cell.cls c = true) :
    wp (findHandler.go f a (y :: ys)) Q E e d acts u ↔ Q (.found y.handlerPc) d acts (u.setVm (u.vm.noted f.method.cls y.catchType (.cls c))) := by
  simp only [covers] at hy
  have hal : u.vm.Alike (u.vm.noted f.method.cls y.catchType (.cls c)) := (Vm.Alike.refl u.vm).noted _ _ _
  obtain ⟨g1, g2⟩ := (resolveClass_links e.toSetting hl).op (op := VmOp.resolveClass f.method.cls y.catchType) rfl
  obtain ⟨k1, hk1⟩ := hk
  obtain ⟨k2, hk2⟩ := hc
  obtain ⟨k3, hk3, -⟩ := hal.2.2 _ _ hk1
  obtain ⟨k4, hk4, -⟩ := hal.2.2 _ _ hk2
  have hfit2 : (u.vm.noted f.method.cls y.catchType (.cls c)).assignable cell.cls c = true := by rw [hal.assignable]; exact hfit
  simp [findHandler.go, hy, h0, g1, g2, hcell, hobj, hk3, hk4, hfit2, VmOp.dirties, VmOp.acts]
section XC
variable {α : Type} {Pic : α → Heap → Prop} {g : Gx} {cc : ByteArray} {nL : Nat} {own : String} {d mc ms : Nat} {K : State → Prop} {w : α} {k n pc : Nat} {lv : Lv} {st : List Value}
/-- the first entry of the table catches -/
theorem wt_catch {C : String} {s0 e0 h0 ct a : Nat} {more : List (Nat × Nat × Nat × Nat)} (F : Fx g cc nL own d mc ms K) (htab : (gx_c g).exceptionTable.toList.map (fun h => (h.startPc, h.endPc, h.handlerPc, h.catchType)) = (s0, e0, h0, ct) :: more) (hin : s0 ≤ pc ∧ pc < e0) (hct : ct ≠ 0) (hlk : Cond.classLink own ct C ∈ lw_all)
    (hrecv : ∀ (H : Heap), Pic w H → ∃ cell : Cell, H[a]? = some cell ∧ cell.vm.isStatics = false ∧ ∃ cT, (gx_s g).vm.findClass C = some cT ∧ (gx_s g).vm.assignable cell.cls cT = true)
    (kk : Wd Pic g nL w k n h0 lv [.ref a]) : WdT Pic g nL w k n pc lv st a := by
  intro H locs ls hP hS hl T hT X
  obtain ⟨cell, hcell, hobj, cT, hcT, hfit⟩ := hrecv H hP
  cases htl : (gx_c g).exceptionTable.toList with
  | nil => rw [htl] at htab; cases htab
  | cons y ys =>
    rw [htl] at htab
    obtain ⟨e1, -⟩ := List.cons.inj htab
    have y1 : y.startPc = s0 := congrArg (fun z => z.1) e1
    have y2 : y.endPc = e0 := congrArg (fun z => z.2.1) e1
    have y3 : y.handlerPc = h0 := congrArg (fun z => z.2.2.1) e1
    have y4 : y.catchType = ct := congrArg (fun z => z.2.2.2) e1
    have hpl : (gx_e g).platform.magicAccessors = ({} : Platform).magicAccessors := by rw [X.admits.platform]
    obtain ⟨c', hc', hcl⟩ := Cond.classLink_spec F.own (F.ts _ hlk) (gx_e g).platform hpl
    cases hcT.symm.trans hc'
    obtain ⟨dk, _, _, kt, hd, _, _, _, _, hkt, _, hopen⟩ := hcl.here
    have hW : (gx_s g).WarmedH (T.vm.noted (gx_m g).cls ct (.cls cT)) := X.warmed.noted hd hopen (State.rightAt_cls hcl)
    have hal := X.warmed.alike
    obtain ⟨kt2, hkt2, -⟩ := hal.2.2 _ _ hkt
    have hfit2 : T.vm.assignable cell.cls cT = true := by rw [hal.assignable]; exact hfit
    obtain ⟨t, b1, b2⟩ := kk H locs ls hP hS hl (T.setVm (T.vm.noted (gx_m g).cls ct (.cls cT))) hT (X.noted hW)
    refine ⟨t, ?_, b2⟩
    obtain ⟨hgo, hw⟩ := X.here.throwing (g := F0 (gx_m g) pc ls st) a
    refine Steps.head hgo hw ?_
    have hfind : ∀ (Q : Handler → Pre) (E : CtlPost) (d : Bool) (acts : List Action), wp (findHandler (F0 (gx_m g) pc ls st) a) Q E (gx_e g) d acts ((T.setTop (F0 (gx_m g) pc ls st)).pushFrame (.throwing a)) ↔ Q (.found h0) d acts (((T.setTop (F0 (gx_m g) pc ls st)).pushFrame (.throwing a)).setVm (T.vm.noted (gx_m g).cls ct (.cls cT))) := by
      intro Q E d acts
      rw [W.findHandler_eq (s := (T.setTop (F0 (gx_m g) pc ls st)).pushFrame (.throwing a)) (f := F0 (gx_m g) pc ls st) X.method' X.code, htl, xt_yes (u := (T.setTop (F0 (gx_m g) pc ls st)).pushFrame (.throwing a)) (f := F0 (gx_m g) pc ls st) (c := cT) (cell := cell) (by show covers y pc = true; unfold covers; rw [y1, y2]; simp [hin.1, hin.2]) (by rw [y4]; exact hct) (by rw [y4]; exact X.warmed.classLinks hcl) (by show T.heap[a]? = _; rw [hT]; exact hcell) (VmData.ne_statics_of hobj) (Vm.classAt_of_assignable hfit2 ⟨kt2, hkt2⟩) ⟨kt2, hkt2⟩ hfit2, y3, y4]
      rfl
    have hstep : (stepThrowing (gx_e g) ((T.setTop (F0 (gx_m g) pc ls st)).pushFrame (.throwing a)) a (.java (F0 (gx_m g) pc ls st) :: T.frames.tail)).Is ((((T.setTop (F0 (gx_m g) pc ls st)).pushFrame (.throwing a)).setVm (T.vm.noted (gx_m g).cls ct (.cls cT))).setFrames (.java { F0 (gx_m g) pc ls st with pc := h0, stack := [.ref a] } :: T.frames.tail)) [] := by
      simp only [stepThrowing, searchFrame, vmDo]
      generalize hr : Sem.go _ (gx_e g) false [] _ = res
      obtain ⟨as, rfl, ha⟩ := Sem.eq_ok_of hr (a := Handler.found h0) (s' := ((T.setTop (F0 (gx_m g) pc ls st)).pushFrame (.throwing a)).setVm (T.vm.noted (gx_m g).cls ct (.cls cT))) (acts' := []) (by simp [hfind _ _ _ _])
      exact ⟨rfl, ha⟩
    rw [stepThread_throwing (frames_entered X.here.top _), hstep.1]
    obtain ⟨g₀, hg⟩ := Option.isSome_iff_exists.mp X.here.top
    obtain ⟨r, hr⟩ := State.topJava?_eq_some.mp hg
    have hr' : (T.setVm (T.vm.noted (gx_m g).cls ct (.cls cT))).frames = .java g₀ :: r := hr
    rw [State.setTop_of_frames _ hr'] at b1
    have key : (((T.setTop (F0 (gx_m g) pc ls st)).pushFrame (.throwing a)).setVm (T.vm.noted (gx_m g).cls ct (.cls cT))).setFrames (.java { F0 (gx_m g) pc ls st with pc := h0, stack := [.ref a] } :: T.frames.tail) = (T.setVm (T.vm.noted (gx_m g).cls ct (.cls cT))).setFrames (.java (F0 (gx_m g) h0 ls [.ref a]) :: r) := by
      have c1 : ∀ (v : State) (F1 F2 : List Frame) (vm' : Vm), ((v.setFrames F1).setVm vm').setFrames F2 = (v.setVm vm').setFrames F2 := fun v F1 F2 vm' => by
        rw [show (v.setFrames F1).setVm vm' = (v.setVm vm').setFrames F1 from rfl, State.setFrames_setFrames]
      rw [State.pushFrame, c1, State.setTop_of_frames _ hr, c1, hr]
      rfl
    rw [key]
    exact b1
end XC
section XS2
variable {α : Type} {Pic : α → Heap → Prop} {cc : ByteArray} {nL : Nat} {own : String} {d mc ms : Nat} {K : State → Prop} {A : Nat → Prop} {w : α}
/-- start of a contract's proof for a method with handlers, its table told -/
theorem cnw_iT {l : Launch} {y : MethodName} {ty : FieldType} {hh : List (Nat × Nat × Nat × Nat)} {as : List Value} {post : Option Value → α → Prop} (hy : plainName y.cls = true) (hn : (lg_sl as).length ≤ nL) (hown : y.cls = own)
    (body : ∀ g : Gx, gx_l g = l → gx_A g = A → Fx g cc nL own d mc ms K → (gx_c g).exceptionTable.toList.map (fun h => (h.startPc, h.endPc, h.handlerPc, h.catchType)) = hh → RetI g cc nL Pic post ty mc ms → Wd Pic g nL w 0 0 0 (lv_args 0 as) []) : Cn l y (wsW_ y cc nL (some ty) hh) d mc ms as Pic K A w post := by
  refine va_MetW (cc := cc) (maxL := nL) (ret := some ty) hy rfl ?_
  intro p e s m args below meth c s₁ B hml hv
  obtain ⟨rfl, hP, hK⟩ := hv
  have hts0 := atoms_spec (ws := wsW_ y cc nL (some ty) hh) B.pre
  have hts : ∀ w ∈ lw_all, w.before _ s = true := fun w h => hts0 w (List.mem_cons_of_mem _ h)
  have hwn : s.vm.findClass y.cls = some m.cls := findClass_of_methodNamed B.named
  have hl := lv_entry as (n := nL) hn
  obtain ⟨m9, meth9, c9, g1, g2, g3, -, -, g6, -, -, -⟩ := Cond.codeWith_spec (hts0 _ List.mem_cons_self)
  cases g1.symm.trans B.named
  cases g2.symm.trans B.method
  cases g3.symm.trans (Stand.of_body B).code
  rw [lg_entry_eq]
  have F : Fx (p, l, e, (headSpec (wsW_ y cc nL (some ty) hh) (rm_ d mc ms)).room, s, m, as.toArray, below, meth, c, A, MQ below (Qc_ Pic A post) as.toArray s mc ms A) cc nL own d mc ms K :=
    ⟨B.exec, B.bytes, hml, by rw [← hown]; exact hwn, hts, B.notSynchronized, Nat.le_refl _, Nat.le_refl _, Nat.le_refl _, Nat.le_refl _, hK⟩
  exact body _ rfl rfl F g6 (ret_i F B.returns rfl rfl) s.heap [] _ hP va_S.rf hl
end XS2
section IW
variable {α : Type} {Pic : α → Heap → Prop} {g : Gx} {cc : ByteArray} {nL : Nat} {own : String} {d mc ms : Nat} {K : State → Prop} {w : α} {k n pc : Nat} {lv : Lv} {rest : List Value}
theorem va_DeclW {args : Array Value} {s : State} {y : MethodName} {b : ByteArray} {m : Nat} {ret : Option FieldType} {hh : List (Nat × Nat × Nat × Nat)} (hi : (Cond.instanceMethod y).before args s = true) (hc : (Cond.codeWith y b m ret hh).before args s = true) : va_Decl s y := by
  obtain ⟨r0, r, hn, hrm, hst, -⟩ := Cond.instanceMethod_spec hi
  obtain ⟨r1, r', c0, hn', hrm', -, -, -, -, -, -, hsig⟩ := Cond.codeWith_spec hc
  cases hn.symm.trans hn'
  cases hrm.symm.trans hrm'
  exact ⟨r0, r, hn, hrm, hst, hsig⟩
/-- a private method with handlers -/
theorem iv_privW {index N : Nat} {y : MethodName} {b : Nat} {As st0 : List Value} {bb : ByteArray} {mm : Nat} {ret : Option FieldType} {hh : List (Nat × Nat × Nat × Nat)} (F : Fx g cc nL own d mc ms K)
    (h1 : Cond.methodLink own index y ∈ lw_all) (h2 : Cond.sameMethod y.cls y.cls y.name y.desc ∈ lw_all) (hpriv : (gx_s g).PrivateAt y) (h4 : Cond.instanceMethod y ∈ lw_all) (h5 : Cond.codeWith y bb mm ret hh ∈ lw_all)
    (hd : y.cls ≠ "java/lang/invoke/MethodHandle" ∧ y.cls ≠ "java/lang/invoke/VarHandle" ∧ (parseMethodDescriptor y.desc).map (fun d => d.parameters.length) = some N)
    (hrecv : ∀ (H : Heap) (locs : List Loc), Pic w H → va_S (gx_A g) (gx_s g).heap H locs → ∃ cell : Cell, H[b]? = some cell ∧ cell.vm.isStatics = false)
    (hN : As.length = N) (hst0 : st0 = As.reverse ++ .ref b :: rest) (hdg : decode cc pc = .ok (.invokevirtual index, 3)) : InvW Pic g nL w k n pc lv st0 (.ref b :: As) rest y :=
  iv_priv F h1 h2 (va_DeclW (F.ts _ h4) (F.ts _ h5)) hpriv h4 hd hrecv hN hst0 hdg
end IW
