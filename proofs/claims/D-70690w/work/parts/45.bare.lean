/-! CONTRACTS OF METHODS WHOSE CLASS ISN'T SAID TO BE INITIALISED (Way, Keeps, Ear, Yawner: their objects are constants): the same walks, without that clause -/
def apB (S : Spec) (x : MethodName) (pl : Platform) (s : State) (m : MethodId) (args : Array Value) (below : List Frame) : Prop :=
  s.status = .running ∧ s.curStatus? = some .runnable ∧ s.alone = true ∧ s.methodNamed? x = some m ∧ s.hears m below = true ∧ s.hasRoom pl S.room = true ∧ S.pre.before args s = true
def MetB0 (l : Launch) (x : MethodName) (S : Spec) (P : Array Value → State → Prop) (Q : Array Value → State → Outcome → State → Prop) : Prop :=
  ∀ (p : Program) e, l.admits e → FairCas e.choices → FairClock e.choices → ∀ s m args below,
    s.frames = .invoking m args :: below → apB S x e.platform s m args below → P args s →
    ∃ n o, (∀ k, k < n → Within (stepsAlone p.tables e k s) below) ∧ (stepsAlone p.tables e n s).status = .running ∧ Ended (stepsAlone p.tables e n s) below o ∧ Q args s o (stepsAlone p.tables e n s)
def MetB (l : Launch) (y : MethodName) (ws : List Cond) (rm : Room) (Pc : Array Value → State → Prop) (Qc : Array Value → State → Outcome → State → Prop) (mc ms : Nat) (free : Addr → Prop) : Prop :=
  MetB0 l y (headSpec ws rm) Pc (fun a st o t => Qc a st o t ∧ ∃ L, FrameEnd st o t L mc ms ∧ ∀ q ∈ L, free q.base)
theorem MetB.ofW {l : Launch} {y : MethodName} {ws ws' : List Cond} {rm : Room} {Pc : Array Value → State → Prop} {Qc : Array Value → State → Outcome → State → Prop} {mc ms : Nat} {free : Addr → Prop} {cc : ByteArray} {maxL : Nat} {ret : Option FieldType}
    (hy : plainName y.cls = true) (hw : ws = Cond.code y cc maxL ret :: ws')
    (body : ∀ p e s m args below meth c, p.tables.exec = Jvm.exec → c.code = cc → meth.sig.returnType = ret → meth.locks = false → c.maxLocals = maxL → s.methodNamed? y = some m → (headSpec ws rm).pre.before args s = true → Pc args s →
      W p l e (headSpec ws rm).room s m args below meth c s.heap [] 0 0 (MQ below Qc args s mc ms free) (entryFrame m args maxL)) : MetB l y ws rm Pc Qc mc ms free := by
  intro p e ha hc hk s m args below hf happ hP
  obtain ⟨hrun, hable, halone, hname, hhears, hroom, hpre⟩ := happ
  obtain ⟨meth, c, hmeth, hcode, hbytes, hlocals, hret, hlocks, -, -⟩ := Cond.code_spec hname (atoms_spec (ws := ws) hpre _ (by rw [hw]; exact List.mem_cons_self))
  have hcur := State.cur_lt_of_frames hf
  have hf1 : (s.setFrames (.java (entryFrame m args maxL) :: below)).frames = .java (entryFrame m args maxL) :: below := State.frames_setFrames _ hcur
  have ht1 := State.topJava?_of_frames hf1
  have hplain : (s.setFrames (.java (entryFrame m args maxL) :: below)).plainMethod m := State.plainMethod.of_named (s := s) (plainFor_of_name hy) hname hmeth
  have hAt : At (s.setFrames (.java (entryFrame m args maxL) :: below)) m c below :=
    ⟨by rw [ht1]; rfl, ⟨[], by rw [hf1]; rfl⟩, hrun, by simpa using hable, by simpa using halone,
      by rw [State.code?_eq]; simp [State.setFrames, hmeth, hcode], hplain⟩
  have hstep : (stepThread p.tables e s).1 = (s.setFrames (.java (entryFrame m args maxL) :: below)).setTop (entryFrame m args maxL) := by
    have hfull : e.platform.stackFull (s.setFrames below).me (s.setFrames below).frames c.maxLocals = false := by
      obtain ⟨-, h1, -, h2⟩ := State.hasRoom_stack hroom
      rw [hf, List.length_cons] at h1
      rw [State.localsInUse_invoking hf hmeth hcode] at h2
      have hw := stackUse_le_stackWeight below
      rw [State.frames_setFrames _ hcur]
      exact Platform.stackFull_eq_false (by rw [State.stackLimits_setFrames]; omega) (by rw [State.stackLimits_setFrames]; omega)
    rw [stepThread_invoking hf, (doInvoke_java (s := s.setFrames below) (e := e) (meth := meth) (code := c) hmeth hcode hlocks hfull).1, State.setTop_self ht1]
    simp only [State.pushFrame, State.frames_setFrames _ hcur, State.setFrames_setFrames, hlocals, entryFrame]
  obtain ⟨t, ht, -⟩ := State.frames_cons hf
  have X : Stand p l e (headSpec ws rm).room s m args below meth c (s.setFrames (.java (entryFrame m args maxL) :: below)) [] 0 0 :=
    ⟨ha, hc, hk, hf, hroom, hhears, hmeth, hcode, hAt, by rw [hf1]; rfl, State.WarmedH.refl s, by rw [State.stackLimits_setFrames], by rw [State.stackBytes_setFrames], (State.sameButNew.refl s ht).setFrames (.java (entryFrame m args maxL) :: below) hcur⟩
  obtain ⟨s₂, hs, o, hr, he, hp⟩ := body p e s m args below meth c (by cases p <;> rfl) hbytes hret hlocks hlocals hname hpre hP (s.setFrames (.java (entryFrame m args maxL) :: below)) rfl X
  obtain ⟨n, hn, hw⟩ := Steps.head (tb := p.tables) (e := e) ⟨hrun, hable, halone⟩ ⟨[.invoking m args], hf, by simp, by simp⟩ (hstep ▸ hs)
  exact ⟨n, o, hw, hn ▸ hr, hn ▸ he, hn ▸ hp.1, hn ▸ hp.2⟩
theorem callB {l : Launch} {x : MethodName} {S : Spec} {P : Array Value → State → Prop} {Q : Array Value → State → Outcome → State → Prop} {e : Env}
    (hM : MetB0 l x S P Q) (p : Program) (ha : l.admits e) (hc : FairCas e.choices) (hk : FairClock e.choices)
    {s : State} {m : MethodId} {args : Array Value} {acts : List Action} {mid below : List Frame}
    (hfr : s.frames = mid ++ below) (hf' : (s.pushFrame (.invoking m args)).frames = .invoking m args :: s.frames) (happ : apB S x e.platform (s.pushFrame (.invoking m args)) m args s.frames) (hP : P args (s.pushFrame (.invoking m args))) :
    ∃ o s₂, Steps p.tables e below (doInvoke e s acts m args).1 s₂ ∧ s₂.status = .running ∧ Ended s₂ s.frames o ∧ Q args (s.pushFrame (.invoking m args)) o s₂ := by
  obtain ⟨t, ht, -⟩ := State.frames_cons hf'
  have ht' : ∃ t, s.threads[s.cur]? = some t := by
    cases h : s.threads[s.cur]? with
    | some t => exact ⟨t, rfl⟩
    | none =>
      have : (s.pushFrame (.invoking m args)).frames = [] := by
        simp [State.frames, State.pushFrame, State.setFrames, Array.getElem?_modify, h]
      rw [this] at hf'
      cases hf'
  obtain ⟨t, ht⟩ := ht'
  obtain ⟨hrun, hable, halone, -⟩ := id happ
  have hgo : (s.pushFrame (.invoking m args)).goesOn := ⟨hrun, hable, halone⟩
  obtain ⟨n, o, hw, hr, he, hp⟩ := hM p e ha hc hk (s.pushFrame (.invoking m args)) m args s.frames hf' happ hP
  have hstep : (stepThread p.tables e (s.pushFrame (.invoking m args))).1 = (doInvoke e s acts m args).1 := by
    rw [stepThread_invoking hf', doInvoke_state e s acts, State.pushFrame, State.setFrames_setFrames, State.setFrames_self ht]
  cases n with
  | zero => exact absurd ⟨[.invoking m args], hf', by simp, by simp⟩ he.not_within
  | succ k =>
    rw [stepsAlone_succ _ hgo, hstep] at hr he hp
    refine ⟨o, _, ⟨k, rfl, fun j hj => ?_⟩, hr, he, hp⟩
    have := hw (j + 1) (by omega)
    rw [stepsAlone_succ _ hgo, hstep, hfr] at this
    exact this.weaken
section BB
variable {l : Launch} {R : Room} {p : Program} {e : Env} {below : List Frame} {s : State} {sargs : Array Value} {y : MethodName} {len W : Nat}
theorem backB_of {ws : List Cond} {rm : Room} {Pc : Array Value → State → Prop} {Qc : Array Value → State → Outcome → State → Prop} {mc ms : Nat} {free : Addr → Prop} {bytes : ByteArray} {maxL : Nat} {ret : Option FieldType}
    (hM : MetB l y ws rm Pc Qc mc ms free) (hblind : FrameBlind Pc) (hrc : rm.cells = mc) (hrs : rm.slots = ms)
    (hframes : rm.frames + 1 ≤ R.frames) (hlocals : W + (maxL + 11) + rm.locals ≤ R.locals)
    (hws : ∀ w ∈ ws, ∀ a' U, s.WarmedH U.vm → w.before a' U = true) (hcode : Cond.code y bytes maxL ret ∈ ws) :
    Back l R p e below s sargs y len W (PreOf R mc ms Pc) (PostOf Qc mc ms free) := by
  intro m meth c A g ig mk a X hg hsize hdg hW hn hp
  obtain ⟨U, Ls, c0, s0⟩ := A
  obtain ⟨h4, h5, hPc⟩ := hp
  dsimp only [Pt.U, Pt.locs, Pt.cells, Pt.slots] at h4 h5 hPc X hn ⊢
  have h1 : (headSpec ws rm).pre.before a U = true := atoms_intro fun w hw => hws w hw _ _ X.warmed
  have h2 : (Cond.code y bytes maxL ret).before a U = true := hws _ hcode _ _ X.warmed
  obtain ⟨methY, cY, hmY, hcY, -, hlY, -, -, -, -⟩ := Cond.code_spec hn h2
  have h : At U g.method c below := by rw [hg]; exact X.here
  have hcode' : (U.calling g mk a).code? g.method = some c := by
    have := h.code
    rw [State.code?_eq] at this ⊢
    simpa [State.calling, State.pushFrame, State.setFrames] using this
  have hroom : (U.calling g mk a).hasRoom e.platform rm = true := X.room_calling (g := g) (R' := rm) hsize hmY hcY hframes (by rw [hlY]; omega) (by rw [hrc]; exact h4) (by rw [hrs]; exact h5)
  have hfc : (U.calling g mk a).frames = .invoking mk a :: (U.setTop g).frames := by
    rw [State.frames_calling h.top g mk a, State.frames_setTop' g h.top]
  have happ : apB (headSpec ws rm) y e.platform (U.calling g mk a) mk a (U.setTop g).frames := by
    refine ⟨h.running, by simpa [State.calling] using h.runnable, by simpa [State.calling] using h.alone, hn, ?_, hroom, ?_⟩
    · rw [State.frames_setTop' g h.top]
      simp [State.hears, hcode', hdg, Except.toOption]
    · rw [State.calling_eq h.top, Cond.before_setFrames]; exact h1
  obtain ⟨mid, hmid⟩ := h.above
  have hfr : (U.setTop g).frames = (.java g :: mid) ++ below := by rw [State.frames_setTop' g h.top, hmid]; rfl
  obtain ⟨o, s₂, hsteps, -, hend, hq⟩ := callB hM p X.admits X.cas X.clock (acts := []) hfr hfc happ (hblind _ _ g mk hPc)
  have hq' : Qc a (U.calling g mk a) o s₂ ∧ ∃ L, FrameEnd (U.calling g mk a) o s₂ L mc ms ∧ ∀ q ∈ L, free q.base := hq
  rw [State.frames_setTop' g h.top] at hend
  obtain ⟨hqc, L, hfe, hE⟩ := hq'
  obtain ⟨⟨v, rfl⟩, hW₂, e2, q2, q3, q4, q5, q6⟩ := id hfe
  have e3 : s₂ = ({ (U.calling g mk a).setFrames s₂.frames with heap := s₂.heap, slotsUsed := s₂.slotsUsed } : State).setVm s₂.vm := by
    have : s₂ = ({ s₂ with vm := (U.calling g mk a).vm } : State).setVm s₂.vm := rfl
    rw [e2] at this
    exact this
  obtain ⟨c₂, i₂, len₂, hc₂, hd₂, hf₂⟩ := hend
  have hW' : U.WarmedH s₂.vm := hW₂
  have hcc : c₂ = c := by
    have h1 : s₂.code? g.method = U.code? g.method := by
      rw [State.code?_eq, State.code?_eq, hW'.alike.method?]
    exact Option.some.inj (hc₂.symm.trans (h1.trans h.code))
  subst hcc
  have hlen : len₂ = len := by rw [hdg] at hd₂; cases hd₂; rfl
  subst hlen
  obtain ⟨g₀, hg0⟩ := Option.isSome_iff_exists.mp h.top
  obtain ⟨r, hr⟩ := State.topJava?_eq_some.mp hg0
  have hs₂ : s₂ = (({ U with heap := s₂.heap, slotsUsed := s₂.slotsUsed } : State).setVm s₂.vm).setTop { g with pc := g.pc + len₂, stack := v.toList ++ g.stack } := by
    have hr' : (({ U with heap := s₂.heap, slotsUsed := s₂.slotsUsed } : State).setVm s₂.vm).frames = .java g₀ :: r := hr
    refine e3.trans ?_
    rw [hf₂, State.calling_eq h.top, State.setFrames_setFrames, State.setTop_of_frames _ hr', hr]
    rfl
  have hsame : U.sameButNew ({ U with heap := s₂.heap, slotsUsed := s₂.slotsUsed } : State) L mc ms := by
    refine ⟨?_, q2, q3, q4, q5, q6⟩
    obtain ⟨t, ht, -⟩ := State.frames_cons hr
    show ({ U with heap := s₂.heap, slotsUsed := s₂.slotsUsed } : State) = { U.setFrames U.frames with heap := s₂.heap, slotsUsed := s₂.slotsUsed }
    rw [State.setFrames_self ht]
  subst hg
  refine ⟨v, ⟨(({ U with heap := s₂.heap, slotsUsed := s₂.slotsUsed } : State).setVm s₂.vm), Ls ++ L, c0 + mc, s0 + ms⟩,
    ⟨X.admits, X.cas, X.clock, X.frames, X.room, X.hears, X.method, X.code, (X.here.setHeapUsed s₂.heap s₂.slotsUsed).setVm hW'.alike, X.tail, State.WarmedH.trans X.warmed hW', X.limits, X.bytes, X.same.trans (hsame.setVm s.vm)⟩,
    ⟨g, mk, s₂, L, rfl, rfl, hqc, rfl, hE, rfl, rfl⟩, ?_⟩
  show Steps p.tables e below _ ((({ U with heap := s₂.heap, slotsUsed := s₂.slotsUsed } : State).setVm s₂.vm).setTop { g with pc := g.pc + len₂, stack := v.toList ++ g.stack })
  rw [← hs₂]
  exact hsteps
end BB
/-- a bare contract over Wd's pictures -/
def CnB {α : Type} (l : Launch) (y : MethodName) (ws : List Cond) (d mc ms : Nat) (as : List Value) (Pic : α → Heap → Prop) (K : State → Prop) (A : Nat → Prop) (w : α) (post : Option Value → α → Prop) : Prop :=
  MetB l y ws (rm_ d mc ms) (fun v U => v = as.toArray ∧ Pic w U.heap ∧ K U) (Qc_ Pic A post) mc ms A
theorem cnb_start {α : Type} {Pic : α → Heap → Prop} {cc : ByteArray} {nL : Nat} {own : String} {d mc ms : Nat} {K : State → Prop} {A : Nat → Prop} {w : α} {l : Launch} {y : MethodName} {ret : Option FieldType} {as : List Value} {post : Option Value → α → Prop} (hy : plainName y.cls = true) (hn : (lg_sl as).length ≤ nL) (hown : y.cls = own)
    (body : ∀ g : Gx, gx_l g = l → Fx g cc nL own d mc ms K → (gx_me g).sig.returnType = ret → gx_A g = A → gx_Q g = MQ (gx_b g) (Qc_ Pic A post) (gx_a g) (gx_s g) mc ms A → Wd Pic g nL w 0 0 0 (lv_args 0 as) []) :
    CnB l y (ws_ y cc nL ret) d mc ms as Pic K A w post := by
  refine MetB.ofW (cc := cc) (maxL := nL) (ret := ret) hy rfl ?_
  intro p e s m args below meth c hx hb hr hlk hml hnm hpre hv
  obtain ⟨rfl, hP, hK⟩ := hv
  have hts := atoms_spec (ws := ws_ y cc nL ret) hpre
  have hts : ∀ w ∈ lw_all, w.before _ s = true := fun w h => hts w (List.mem_cons_of_mem _ h)
  have hwn : s.vm.findClass y.cls = some m.cls := findClass_of_methodNamed hnm
  have hl := lv_entry as (n := nL) hn
  rw [lg_entry_eq]
  exact body (p, l, e, (headSpec (ws_ y cc nL ret) (rm_ d mc ms)).room, s, m, as.toArray, below, meth, c, A, MQ below (Qc_ Pic A post) as.toArray s mc ms A) rfl
    ⟨hx, hb, hml, by rw [← hown]; exact hwn, hts, hlk, Nat.le_refl _, Nat.le_refl _, Nat.le_refl _, Nat.le_refl _, hK⟩ hr rfl rfl s.heap [] _ hP va_S.rf hl
theorem cnb_i {α : Type} {Pic : α → Heap → Prop} {cc : ByteArray} {nL : Nat} {own : String} {d mc ms : Nat} {K : State → Prop} {A : Nat → Prop} {w : α} {l : Launch} {y : MethodName} {ty : FieldType} {as : List Value} {post : Option Value → α → Prop} (hy : plainName y.cls = true) (hn : (lg_sl as).length ≤ nL) (hown : y.cls = own)
    (body : ∀ g : Gx, gx_l g = l → gx_A g = A → Fx g cc nL own d mc ms K → RetI g cc nL Pic post ty mc ms → Wd Pic g nL w 0 0 0 (lv_args 0 as) []) : CnB l y (ws_ y cc nL (some ty)) d mc ms as Pic K A w post :=
  cnb_start hy hn hown (fun g hl F hr hA hQ => body g hl hA F (ret_i F hr hA hQ))
section BC
variable {α : Type} {Pic : α → Heap → Prop} {g : Gx} {cc : ByteArray} {nL : Nat} {own : String} {d mc ms : Nat} {K : State → Prop} {w : α} {k n pc : Nat} {lv : Lv} {rest : List Value}
/-- a call through an object (of class C) of the method x that it finds as y, y's class not said to be initialised -/
theorem cab_U {C owner : String} {index : Nat} {x y : MethodName} {bytes : ByteArray} {maxL d' mc' ms' N : Nat} {ret : Option FieldType} {b : Nat} {As st0 : List Value} {A : Nat → Prop} {post : Option Value → α → Prop} (hKs : Kst (gx_A g) K) (F : Fx g cc nL own d mc ms K) (hA : ∀ q, A q → gx_A g q)
    (hM : CnB (gx_l g) y (ws_ y bytes maxL ret) d' mc' ms' (.ref b :: As) Pic K A w post)
    (h1 : Cond.methodLink own index x ∈ lw_all) (h2 : Cond.sameMethod x.cls owner x.name x.desc ∈ lw_all) (h3 : Cond.selects C x y ∈ lw_all) (h4 : Cond.instanceMethod y ∈ lw_all) (h5 : Cond.code y bytes maxL ret ∈ lw_all) (h6 : Cond.instanceMethod ⟨owner, x.name, x.desc⟩ ∈ lw_all) {b0 : ByteArray} {m0 : Nat} {r0 : Option FieldType} (h7 : Cond.code ⟨owner, x.name, x.desc⟩ b0 m0 r0 ∈ lw_all)
    (hd : owner ≠ "java/lang/invoke/MethodHandle" ∧ owner ≠ "java/lang/invoke/VarHandle" ∧ (parseMethodDescriptor x.desc).map (fun d => d.parameters.length) = some N)
    (hrecv : ∀ H, Pic w H → ∃ cell : Cell, H[b]? = some cell ∧ cell.vm.isStatics = false ∧ (gx_s g).vm.findClass C = some cell.cls)
    (hN : As.length = N) (hdd : d' + 1 ≤ d) (hml : maxL ≤ 21) (hc : k + mc' ≤ mc) (hs : n + ms' ≤ ms) (hst0 : st0 = As.reverse ++ .ref b :: rest) (hst : (rest.map fun v => v.category).sum ≤ 8) (hdg : decode cc pc = .ok (.invokevirtual index, 3))
    (kk : ∀ (v : Option Value) (w' : α), post v w' → Wd Pic g nL w' (k + mc') (n + ms') (pc + 3) lv (v.toList ++ rest)) : Wd Pic g nL w k n pc lv st0 := by
  subst hst0
  refine ca_go (a := (Value.ref b :: As).toArray) hA (fun H locs ls hP hS hl => ?_) kk
  obtain ⟨hfr, hlo⟩ := rm_ok (maxL := maxL) (d' := d') (mc' := mc') (ms' := ms') F hdd hml
  have hK : Back (gx_l g) (gx_R g) (gx_p g) (gx_e g) (gx_b g) (gx_s g) (gx_a g) y 3 8 (PreOf (gx_R g) mc' ms' _) (PostOf _ mc' ms' A) := backB_of (bytes := bytes) (maxL := maxL) (ret := ret) hM (fun a U g' mk q => ⟨q.1, q.2.1, hKs U _ (State.WarmedH.refl U) (fun _ _ _ => rfl) q.2.2⟩) rfl rfl hfr hlo (pay_in F.ts (lw_meth h5)) (List.mem_cons_self)
  obtain ⟨cellB, hcB, hoB, hclB⟩ := hrecv H hP
  intro T hT X
  obtain ⟨v, vm₁, ⟨U', l2, c2, s2⟩, hW₁, X', ⟨g', mk, t, L, e1, e2, hq, e3, hL, e4, e5⟩, st⟩ := va_callVU X F.x (C := C) (owner := owner) (bytes := bytes) (maxL := maxL) (ret := ret) F.own (F.ts _ h1) (F.ts _ h2) (va_Decl.of (F.ts _ h6) (F.ts _ h7)) ⟨hd.1, hd.2.1⟩ (F.ts _ h3) (F.ts _ h4) (F.ts _ h5) hK (by rw [hT]; exact hcB) hoB hclB rfl (hl.1.trans F.ml.symm) (argsL := As) (rest := rest) (fun sig h => by
      have h8 := hd.2.2
      rw [h] at h8
      exact hN.trans (Option.some.inj h8).symm) rfl (lv_room hst) (by rw [F.b]; exact hdg)
    (fun vm₁ hW₁ => ⟨Nat.le_trans hc F.ce, Nat.le_trans hs F.sl, rfl, by show Pic w T.heap; rw [hT]; exact hP, hKs _ _ hW₁ (fun q q1 q2 => by show T.heap[q]? = _; rw [hT]; exact hS.2.1 q q1 q2) F.k⟩)
  dsimp only [Pt.U, Pt.locs, Pt.cells, Pt.slots] at X' e1 e2 e3 e4 e5 st
  subst e3; subst e4; subst e5
  exact ⟨v, (T.setVm vm₁).calling g' mk (Value.ref b :: As).toArray, t, U', L, hT, X', hL, e1, e2, hq, st⟩
/-- super's method, its class not said to be initialised -/
theorem cab_P {C : String} {cC : ClassId} {index : Nat} {y : MethodName} {bytes : ByteArray} {maxL d' mc' ms' N : Nat} {ret : Option FieldType} {b : Nat} {As st0 : List Value} {A : Nat → Prop} {post : Option Value → α → Prop} (hKs : Kst (gx_A g) K) (F : Fx g cc nL own d mc ms K) (hA : ∀ q, A q → gx_A g q) (hat : ClassAt (gx_s g) C cC)
    (hM : CnB (gx_l g) y (ws_ y bytes maxL ret) d' mc' ms' (.ref b :: As) Pic K A w post)
    (h1 : Cond.methodLink own index y ∈ lw_all) (h2 : Cond.sameMethod y.cls y.cls y.name y.desc ∈ lw_all) (h3 : Cond.superclass own y.cls ∈ lw_all) (h4 : Cond.instanceMethod y ∈ lw_all) (h5 : Cond.code y bytes maxL ret ∈ lw_all)
    (hrecv : ∀ H, Pic w H → ∃ cell : Cell, H[b]? = some cell ∧ cell.vm.isStatics = false ∧ (gx_s g).vm.findClass C = some cell.cls)
    (hd : y.name ≠ "<init>" ∧ (parseMethodDescriptor y.desc).map (fun d => d.parameters.length) = some N)
    (hN : As.length = N) (hdd : d' + 1 ≤ d) (hml : maxL ≤ 21) (hc : k + mc' ≤ mc) (hs : n + ms' ≤ ms) (hst0 : st0 = As.reverse ++ .ref b :: rest) (hst : (rest.map fun v => v.category).sum ≤ 8) (hdg : decode cc pc = .ok (.invokespecial index, 3))
    (kk : ∀ (v : Option Value) (w' : α), post v w' → Wd Pic g nL w' (k + mc') (n + ms') (pc + 3) lv (v.toList ++ rest)) : Wd Pic g nL w k n pc lv st0 := by
  subst hst0
  refine ca_go (a := (Value.ref b :: As).toArray) hA (fun H locs ls hP hS hl => ?_) kk
  obtain ⟨hfr, hlo⟩ := rm_ok (maxL := maxL) (d' := d') (mc' := mc') (ms' := ms') F hdd hml
  have hK : Back (gx_l g) (gx_R g) (gx_p g) (gx_e g) (gx_b g) (gx_s g) (gx_a g) y 3 8 (PreOf (gx_R g) mc' ms' _) (PostOf _ mc' ms' A) := backB_of (bytes := bytes) (maxL := maxL) (ret := ret) hM (fun a U g' mk q => ⟨q.1, q.2.1, hKs U _ (State.WarmedH.refl U) (fun _ _ _ => rfl) q.2.2⟩) rfl rfl hfr hlo (pay_in F.ts (lw_meth h5)) (List.mem_cons_self)
  obtain ⟨cellB, hcB, hoB, hclB⟩ := hrecv H hP
  obtain ⟨hfc, kB, hkB, -⟩ := hat
  cases hfc.symm.trans hclB
  intro T hT X
  obtain ⟨v, vm₁, ⟨U', l2, c2, s2⟩, hW₁, X', ⟨g', mk, t, L, e1, e2, hq, e3, hL, e4, e5⟩, st⟩ := va_callSU X F.x (bytes := bytes) (maxL := maxL) (ret := ret) F.own (F.ts _ h1) (F.ts _ h2) (F.ts _ h3) (F.ts _ h4) (F.ts _ h5) hd.1 hK (by rw [hT]; exact hcB) hoB hkB rfl (hl.1.trans F.ml.symm) (argsL := As) (rest := rest) (fun sig h => by
      have h8 := hd.2
      rw [h] at h8
      exact hN.trans (Option.some.inj h8).symm) rfl (lv_room hst) (by rw [F.b]; exact hdg)
    (fun vm₁ hW₁ => ⟨Nat.le_trans hc F.ce, Nat.le_trans hs F.sl, rfl, by show Pic w T.heap; rw [hT]; exact hP, hKs _ _ hW₁ (fun q q1 q2 => by show T.heap[q]? = _; rw [hT]; exact hS.2.1 q q1 q2) F.k⟩)
  dsimp only [Pt.U, Pt.locs, Pt.cells, Pt.slots] at X' e1 e2 e3 e4 e5 st
  subst e3; subst e4; subst e5
  exact ⟨v, (T.setVm vm₁).calling g' mk (Value.ref b :: As).toArray, t, U', L, hT, X', hL, e1, e2, hq, st⟩
end BC
