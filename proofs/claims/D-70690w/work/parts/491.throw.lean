/-! METHODS THAT THROW: contracts whose end is a throw, calls of such, the thrown state in a caller (it goes on out, or is caught) -/
def FrX (first : State) (o : Outcome) (t : State) (L : List Loc) (k n : Nat) : Prop := (∃ x, o = .threw x) ∧ first.WarmedH t.vm ∧ first.sameButNew ({ t with vm := first.vm } : State) L k n
def MetX (l : Launch) (y : MethodName) (ws : List Cond) (rm : Room) (Pc : Array Value → State → Prop) (Qc : Array Value → State → Outcome → State → Prop) (mc ms : Nat) (free : Addr → Prop) : Prop :=
  MetFree l y (headSpec ws rm) Pc (fun _ _ _ _ _ => True) (fun a st o t => Qc a st o t ∧ ∃ L, FrX st o t L mc ms ∧ ∀ q ∈ L, free q.base)
def MQX (below : List Frame) (Qc : Array Value → State → Outcome → State → Prop) (a : Array Value) (s : State) (mc ms : Nat) (free : Addr → Prop) : State → Prop := fun t =>
  ∃ o, t.status = .running ∧ Ended t below o ∧ Qc a s o t ∧ ∃ L, FrX s o t L mc ms ∧ ∀ q ∈ L, free q.base
abbrev QcX {α : Type} (Pic : α → Heap → Prop) (A : Nat → Prop) (post : Nat → α → Prop) : Array Value → State → Outcome → State → Prop := fun _ st o t => (∃ (a : Nat) (w' : α), o = .threw a ∧ post a w' ∧ Pic w' t.heap) ∧ va_F A st t
/-- a contract of a method that throws: from the picture w, with these arguments, it ends by throwing an object that post allows -/
def CnX {α : Type} (l : Launch) (y : MethodName) (ws : List Cond) (d mc ms : Nat) (as : List Value) (Pic : α → Heap → Prop) (K : State → Prop) (A : Nat → Prop) (w : α) (post : Nat → α → Prop) : Prop :=
  MetX l y ws (rm_ d mc ms) (fun v U => v = as.toArray ∧ Pic w U.heap ∧ K U) (QcX Pic A post) mc ms A
/-- the thrown state over a frame of the walk -/
def WdT {α : Type} (Pic : α → Heap → Prop) (g : Gx) (nL : Nat) (w : α) (k n pc : Nat) (lv : Lv) (st : List Value) (a : Nat) : Prop :=
  ∀ (H : Heap) (locs : List Loc) (ls : Array Slot), Pic w H → va_S (gx_A g) (gx_s g).heap H locs → lv_has ls nL lv → ∀ T : State, T.heap = H → Stand (gx_p g) (gx_l g) (gx_e g) (gx_R g) (gx_s g) (gx_m g) (gx_a g) (gx_b g) (gx_me g) (gx_c g) T locs k n → ∃ t, Steps (gx_p g).tables (gx_e g) (gx_b g) ((T.setTop (F0 (gx_m g) pc ls st)).pushFrame (.throwing a)) t ∧ gx_Q g t
/-- what a method that throws knows of its end -/
def Xend {α : Type} (g : Gx) (Pic : α → Heap → Prop) (post : Nat → α → Prop) (mc ms : Nat) (A : Nat → Prop) : Prop :=
  gx_A g = A ∧ gx_Q g = MQX (gx_b g) (QcX Pic A post) (gx_a g) (gx_s g) mc ms A ∧ (gx_c g).exceptionTable.isEmpty = true
section XS
variable {α : Type} {Pic : α → Heap → Prop} {cc : ByteArray} {nL : Nat} {own : String} {d mc ms : Nat} {K : State → Prop} {A : Nat → Prop} {w : α}
theorem Xend.out {g : Gx} {post : Nat → α → Prop} (h : Xend g Pic post mc ms A) (pc : Nat) : ∀ x ∈ (gx_c g).exceptionTable.toList, covers x pc = false := by
  intro x hx
  have h1 := h.2.2
  rw [Array.isEmpty_iff] at h1
  rw [h1] at hx
  cases hx
/-- out of the method -/
theorem wt_out {g : Gx} {post : Nat → α → Prop} (F : Fx g cc nL own d mc ms K) (h : Xend g Pic post mc ms A) {k n pc : Nat} {lv : Lv} {st : List Value} {a : Nat} (hk : k ≤ mc) (hn : n ≤ ms) (hp : post a w) : WdT Pic g nL w k n pc lv st a := by
  intro H locs ls hP hS hl T hT X
  obtain ⟨s1, s2, s3, s4, s5⟩ := X.leaveThrown a (g := F0 (gx_m g) pc ls st) rfl rfl rfl (h.out pc) F.lk
  refine ⟨_, s1, ?_⟩
  rw [h.2.1]
  rw [h.1] at hS
  exact ⟨.threw a, s2, s3, ⟨⟨a, w, rfl, hp, by show Pic w T.heap; rw [hT]; exact hP⟩, hS.F hT⟩, locs, ⟨⟨a, rfl⟩, s4, s5.weaken (fun y hy _ => hy) hk hn⟩, hS.2.2⟩
/-- the instruction athrow -/
theorem ro_athrow {g : Gx} (F : Fx g cc nL own d mc ms K) {k n pc : Nat} {lv : Lv} {rest : List Value} {a : Nat} (hd : decode cc pc = .ok (.athrow, 1)) (kk : WdT Pic g nL w k n pc lv rest a) : Wd Pic g nL w k n pc lv (.ref a :: rest) := by
  intro H locs ls hP hS hl T hT X
  obtain ⟨t, h1, h2⟩ := kk H locs ls hP hS hl T hT X
  refine ⟨t, ?_, h2⟩
  have hexec := F.x
  have hdg : decode (gx_c g).code pc = .ok (.athrow, 1) := by rw [F.b]; exact hd
  jvm_step X.here [hexec, hdg, athrow.wp_sem]
  exact h1
theorem cnx_start {l : Launch} {y : MethodName} {ret : Option FieldType} {as : List Value} {post : Nat → α → Prop} (hy : plainName y.cls = true) (hn : (lg_sl as).length ≤ nL) (hown : y.cls = own)
    (body : ∀ g : Gx, gx_l g = l → gx_A g = A → Fx g cc nL own d mc ms K → Xend g Pic post mc ms A → Wd Pic g nL w 0 0 0 (lv_args 0 as) []) :
    CnX l y (ws_ y cc nL ret) d mc ms as Pic K A w post := by
  show MetX _ _ _ _ _ _ _ _ _
  unfold MetX
  refine MetFree.of_bodyS (code := cc) (maxLocals := nL) (ret := ret) hy ?_ ?_
  · intro args s m h hn
    obtain ⟨meth, c, h1, h2, h3, h4, h5, h6, -, -⟩ := Cond.code_spec hn (atoms_spec (ws := ws_ y cc nL ret) h _ List.mem_cons_self)
    exact ⟨meth, c, h1, h2, h3, h4, h5, h6⟩
  · intro p e s m args below meth c s₁ B hml hv _
    obtain ⟨rfl, hP, hK⟩ := hv
    have hh0 : s₁.heap = s.heap := by rw [B.state]; rfl
    have hts := atoms_spec (ws := ws_ y cc nL ret) B.pre
    have hcd : (Cond.code y cc nL ret).before as.toArray s = true := hts _ List.mem_cons_self
    have hts : ∀ w ∈ lw_all, w.before _ s = true := fun w h => hts w (List.mem_cons_of_mem _ h)
    have hwn : s.vm.findClass y.cls = some m.cls := findClass_of_methodNamed B.named
    have hl := lv_entry as (n := nL) hn
    have hb := body (p, l, e, (headSpec (ws_ y cc nL ret) (rm_ d mc ms)).room, s, m, as.toArray, below, meth, c, A, MQX below (QcX Pic A post) as.toArray s mc ms A) rfl rfl
      ⟨B.exec, B.bytes, hml, by rw [← hown]; exact hwn, hts, B.notSynchronized, Nat.le_refl _, Nat.le_refl _, Nat.le_refl _, Nat.le_refl _, hK⟩ ⟨rfl, rfl, B.noHandlers hcd⟩ s.heap [] _ hP va_S.rf hl s₁ hh0 (Stand.of_body B)
    rw [lg_entry_eq]
    obtain ⟨t, a1, o, b1, b2, b3⟩ := hb
    exact ⟨t, o, a1, b1, b2, ⟨b3.1, b3.2⟩⟩
end XS
section XB
variable {l : Launch} {R : Room} {p : Program} {e : Env} {below : List Frame} {s : State} {sargs : Array Value} {y : MethodName} {len W : Nat}
/-- what a call of a method that throws comes to, in the caller -/
def BackX (l : Launch) (R : Room) (p : Program) (e : Env) (below : List Frame) (s : State) (sargs : Array Value) (y : MethodName) (len W : Nat) (Pre : Pt → Array Value → Prop) (Post : Pt → Array Value → Addr → Pt → Prop) : Prop :=
  ∀ (m : MethodId) (meth : Method) (c : Code) (A : Pt) (g : JFrame) (ig : Instr) (mk : MethodId) (a : Array Value),
    Stand p l e R s m sargs below meth c A.U A.locs A.cells A.slots → g.method = m → g.locals.size = c.maxLocals → decode c.code g.pc = .ok (ig, len) →
    2 * g.monitorRoom + (g.stack.map fun v => v.category).sum ≤ W → A.U.methodNamed? y = some mk → Pre A a →
    ∃ (x : Addr) (B : Pt), Stand p l e R s m sargs below meth c B.U B.locs B.cells B.slots ∧ Post A a x B ∧
      Steps p.tables e below (doInvoke e (A.U.setTop g) [] mk a).1 ((B.U.setTop g).pushFrame (.throwing x))
def PostX (Qc : Array Value → State → Outcome → State → Prop) (mc ms : Nat) (free : Addr → Prop) : Pt → Array Value → Addr → Pt → Prop := fun A a v B =>
  ∃ (g : JFrame) (mk : MethodId) (t : State) (L : List Loc), B.U.heap = t.heap ∧ B.U.vm = t.vm ∧ Qc a (A.U.calling g mk a) (.threw v) t ∧ B.locs = A.locs ++ L ∧ (∀ q ∈ L, free q.base) ∧ B.cells = A.cells + mc ∧ B.slots = A.slots + ms
theorem backX_of {ws : List Cond} {rm : Room} {Pc : Array Value → State → Prop} {Qc : Array Value → State → Outcome → State → Prop} {mc ms : Nat} {free : Addr → Prop} {bytes : ByteArray} {maxL : Nat} {ret : Option FieldType}
    (hM : MetX l y ws rm Pc Qc mc ms free) (hblind : FrameBlind Pc) (hrc : rm.cells = mc) (hrs : rm.slots = ms)
    (hframes : rm.frames + 1 ≤ R.frames) (hlocals : W + (maxL + 11) + rm.locals ≤ R.locals)
    (hws : ∀ w ∈ ws, ∀ a' U, s.WarmedH U.vm → w.before a' U = true) (hcode : Cond.code y bytes maxL ret ∈ ws) (hinit : ∀ a' U, s.WarmedH U.vm → (Cond.initialized y.cls).before a' U = true) :
    BackX l R p e below s sargs y len W (PreOf R mc ms Pc) (PostX Qc mc ms free) := by
  intro m meth c A g ig mk a X hg hsize hdg hW hn hp
  obtain ⟨U, Ls, c0, s0⟩ := A
  obtain ⟨h4, h5, hPc⟩ := hp
  dsimp only [Pt.U, Pt.locs, Pt.cells, Pt.slots] at h4 h5 hPc X hn ⊢
  have h1 : (headSpec ws rm).pre.before a U = true := atoms_intro fun w hw => hws w hw _ _ X.warmed
  have h2 : (Cond.code y bytes maxL ret).before a U = true := hws _ hcode _ _ X.warmed
  have h3 : (Cond.initialized y.cls).before a U = true := hinit _ _ X.warmed
  obtain ⟨methY, cY, hmY, hcY, -, hlY, -, -, -, -⟩ := Cond.code_spec hn h2
  obtain ⟨kY, hkY, -⟩ := className_of_methodNamed hn
  have hinitY : kY.init = .initialized := Cond.initialized_spec (findClass_of_methodNamed hn) hkY h3
  have h : At U g.method c below := by rw [hg]; exact X.here
  have happ : (headSpec ws rm).appliesLoose y e.platform (U.calling g mk a) = true :=
    Spec.appliesLoose_calling (g := g) h hdg hn hkY hinitY
      (X.room_calling (g := g) (R' := (headSpec ws rm).room) hsize hmY hcY hframes (by rw [hlY]; show _ + (maxL + 11) + rm.locals ≤ _; omega) (by rw [show (headSpec ws rm).room.cells = mc from hrc]; exact h4) (by rw [show (headSpec ws rm).room.slots = ms from hrs]; exact h5)) h1
  obtain ⟨mid, hmid⟩ := h.above
  have hfr : (U.setTop g).frames = (.java g :: mid) ++ below := by rw [State.frames_setTop' g h.top, hmid]; rfl
  obtain ⟨o, s₂, hsteps, -, hend, hq⟩ := Steps.callFree hM p X.admits X.cas X.clock (acts := []) hfr happ (hblind _ _ g mk hPc) trivial
  have hq' : Qc a (U.calling g mk a) o s₂ ∧ ∃ L, FrX (U.calling g mk a) o s₂ L mc ms ∧ ∀ q ∈ L, free q.base := hq
  rw [State.frames_setTop' g h.top] at hend
  obtain ⟨hqc, L, hfe, hE⟩ := hq'
  obtain ⟨⟨v, rfl⟩, hW₂, e2, q2, q3, q4, q5, q6⟩ := id hfe
  have e3 : s₂ = ({ (U.calling g mk a).setFrames s₂.frames with heap := s₂.heap, slotsUsed := s₂.slotsUsed } : State).setVm s₂.vm := by
    have : s₂ = ({ s₂ with vm := (U.calling g mk a).vm } : State).setVm s₂.vm := rfl
    rw [e2] at this
    exact this
  have hf₂ : s₂.frames = .throwing v :: .java g :: U.frames.tail := hend
  have hW' : U.WarmedH s₂.vm := hW₂
  obtain ⟨g₀, hg0⟩ := Option.isSome_iff_exists.mp h.top
  obtain ⟨r, hr⟩ := State.topJava?_eq_some.mp hg0
  have hs₂ : s₂ = ((({ U with heap := s₂.heap, slotsUsed := s₂.slotsUsed } : State).setVm s₂.vm).setTop g).pushFrame (.throwing v) := by
    have hr' : (({ U with heap := s₂.heap, slotsUsed := s₂.slotsUsed } : State).setVm s₂.vm).frames = .java g₀ :: r := hr
    refine e3.trans ?_
    rw [hf₂, State.calling_eq h.top, State.setFrames_setFrames, State.pushFrame, State.frames_setTop _ hr', State.setTop_of_frames _ hr', State.setFrames_setFrames, hr]
    rfl
  have hsame : U.sameButNew ({ U with heap := s₂.heap, slotsUsed := s₂.slotsUsed } : State) L mc ms := by
    refine ⟨?_, q2, q3, q4, q5, q6⟩
    obtain ⟨t, ht, -⟩ := State.frames_cons hr
    show ({ U with heap := s₂.heap, slotsUsed := s₂.slotsUsed } : State) = { U.setFrames U.frames with heap := s₂.heap, slotsUsed := s₂.slotsUsed }
    rw [State.setFrames_self ht]
  subst hg
  refine ⟨v, ⟨(({ U with heap := s₂.heap, slotsUsed := s₂.slotsUsed } : State).setVm s₂.vm), Ls ++ L, c0 + mc, s0 + ms⟩,
    ⟨X.admits, X.cas, X.clock, X.frames, X.room, X.hears, X.method, X.code, (X.here.setHeapUsed s₂.heap s₂.slotsUsed).setVm hW'.alike, X.tail, State.WarmedH.trans X.warmed hW', X.limits, X.bytes, X.same.trans (hsame.setVm s.vm)⟩,
    ⟨g, mk, s₂, L, rfl, rfl, hqc, rfl, hE, rfl, rfl⟩, ?_⟩
  show Steps p.tables e below _ (((({ U with heap := s₂.heap, slotsUsed := s₂.slotsUsed } : State).setVm s₂.vm).setTop g).pushFrame (.throwing v))
  rw [← hs₂]
  exact hsteps
end XB
