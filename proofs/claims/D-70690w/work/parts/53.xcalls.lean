/-! CALLS CUT IN TWO: how the callee is found (chosen by the object's class; private), and how it ends (returns; throws) -/
section IV
variable {α : Type} {Pic : α → Heap → Prop} {g : Gx} {cc : ByteArray} {nL : Nat} {own : String} {d mc ms : Nat} {K : State → Prop} {w : α} {k n pc : Nat} {lv : Lv} {rest : List Value}
/-- at pc the machine comes to invoke y with these arguments, rest staying on the stack -/
def InvW {α : Type} (Pic : α → Heap → Prop) (g : Gx) (nL : Nat) (w : α) (k n pc : Nat) (lv : Lv) (st0 as rest : List Value) (y : MethodName) : Prop :=
  ∀ (H : Heap) (locs : List Loc) (ls : Array Slot) (T : State), Pic w H → va_S (gx_A g) (gx_s g).heap H locs → lv_has ls nL lv → T.heap = H → Stand (gx_p g) (gx_l g) (gx_e g) (gx_R g) (gx_s g) (gx_m g) (gx_a g) (gx_b g) (gx_me g) (gx_c g) T locs k n →
    ∃ (ig : Instr) (mk : MethodId) (vm₁ : Vm), decode (gx_c g).code pc = .ok (ig, 3) ∧ (gx_s g).methodNamed? y = some mk ∧ Stand (gx_p g) (gx_l g) (gx_e g) (gx_R g) (gx_s g) (gx_m g) (gx_a g) (gx_b g) (gx_me g) (gx_c g) (T.setVm vm₁) locs k n ∧
      ∀ target, Steps (gx_p g).tables (gx_e g) (gx_b g) (doInvoke (gx_e g) ((T.setVm vm₁).setTop (F0 (gx_m g) pc ls rest)) [] mk as.toArray).1 target → Steps (gx_p g).tables (gx_e g) (gx_b g) (T.setTop (F0 (gx_m g) pc ls st0)) target
/-- chosen by the object's class -/
theorem iv_sel {C owner : String} {index N : Nat} {x y : MethodName} {b : Nat} {As st0 : List Value} (F : Fx g cc nL own d mc ms K)
    (h1 : Cond.methodLink own index x ∈ lw_all) (h2 : Cond.sameMethod x.cls owner x.name x.desc ∈ lw_all) (hd0 : va_Decl (gx_s g) ⟨owner, x.name, x.desc⟩) (h3 : Cond.selects C x y ∈ lw_all) (h4 : Cond.instanceMethod y ∈ lw_all)
    (hd : owner ≠ "java/lang/invoke/MethodHandle" ∧ owner ≠ "java/lang/invoke/VarHandle" ∧ (parseMethodDescriptor x.desc).map (fun d => d.parameters.length) = some N)
    (hrecv : ∀ (H : Heap) (locs : List Loc), Pic w H → va_S (gx_A g) (gx_s g).heap H locs → ∃ cell : Cell, H[b]? = some cell ∧ cell.vm.isStatics = false ∧ (gx_s g).vm.findClass C = some cell.cls)
    (hN : As.length = N) (hst0 : st0 = As.reverse ++ .ref b :: rest) (hdg : decode cc pc = .ok (.invokevirtual index, 3)) : InvW Pic g nL w k n pc lv st0 (.ref b :: As) rest y := by
  intro H locs ls T hP hS hl hT X
  subst hst0
  obtain ⟨cellB, hcB, hobj, hcls⟩ := hrecv H locs hP hS
  obtain ⟨r0, r, hn, hrm, hstR, hsigR⟩ := hd0
  obtain ⟨cn, ck, r1, hcn, hck, hni, hf, hn1⟩ := Cond.sameMethod_found (F.ts _ h2)
  cases hn.symm.trans hn1
  obtain ⟨mk, methM, hnamed, hmethM, -, habM⟩ := Cond.instanceMethod_spec (F.ts _ h4)
  obtain ⟨c2, r2, m2, q1, q2, q3, q4, kP, hkP, hkPi⟩ := Cond.selects_spec (F.ts _ h3)
  cases hcls.symm.trans q1
  cases hf.symm.trans q2
  cases hnamed.symm.trans q3
  have hselP : selectMethod (gx_e g).platform (gx_s g).vm cellB.cls r0 = .method mk := by rw [Launch.admits_selectMethod X.admits]; exact q4
  have hlen : As.length = r.sig.parameters.length := by
    have h8 := hd.2.2
    rw [hsigR] at h8
    exact hN.trans (Option.some.inj h8).symm
  have hdc : decode (gx_c g).code pc = .ok (.invokevirtual index, 3) := by rw [F.b]; exact hdg
  obtain ⟨vm₁, X₁, hstep₁⟩ := X.invokevirtualUp F.x F.own (F.ts _ h1) (F.ts _ h2) ⟨hd.1, hd.2.1⟩ hn hrm hstR (a := b) (cell := cellB) (by rw [hT]; exact hcB)
    (fun z h => by rw [h] at hobj; cases hobj) hselP hmethM habM hkP hkPi (g := F0 (gx_m g) pc ls (As.reverse ++ .ref b :: rest)) rfl (argsL := As) (rest := rest) hlen rfl hdc
  exact ⟨_, mk, vm₁, hdc, hnamed, X₁, fun target h => hstep₁ _ fun acts => by rw [doInvoke_state]; exact h⟩
/-- a private method of the class -/
theorem iv_priv {index N : Nat} {y : MethodName} {b : Nat} {As st0 : List Value} (F : Fx g cc nL own d mc ms K)
    (h1 : Cond.methodLink own index y ∈ lw_all) (h2 : Cond.sameMethod y.cls y.cls y.name y.desc ∈ lw_all) (hd0 : va_Decl (gx_s g) y) (hpriv : (gx_s g).PrivateAt y) (h4 : Cond.instanceMethod y ∈ lw_all)
    (hd : y.cls ≠ "java/lang/invoke/MethodHandle" ∧ y.cls ≠ "java/lang/invoke/VarHandle" ∧ (parseMethodDescriptor y.desc).map (fun d => d.parameters.length) = some N)
    (hrecv : ∀ (H : Heap) (locs : List Loc), Pic w H → va_S (gx_A g) (gx_s g).heap H locs → ∃ cell : Cell, H[b]? = some cell ∧ cell.vm.isStatics = false)
    (hN : As.length = N) (hst0 : st0 = As.reverse ++ .ref b :: rest) (hdg : decode cc pc = .ok (.invokevirtual index, 3)) : InvW Pic g nL w k n pc lv st0 (.ref b :: As) rest y := by
  intro H locs ls T hP hS hl hT X
  subst hst0
  obtain ⟨cellB, hcB, hobj⟩ := hrecv H locs hP hS
  obtain ⟨r0, r, hn, hrm, hstR, hsigR⟩ := hd0
  obtain ⟨cn, ck, r1, hcn, hck, hni, hf, hn1⟩ := Cond.sameMethod_found (F.ts _ h2)
  cases hn.symm.trans hn1
  obtain ⟨mk, methM, hnamed, hmethM, hstM, habM⟩ := Cond.instanceMethod_spec (F.ts _ h4)
  cases hnamed.symm.trans hn
  cases hmethM.symm.trans hrm
  have hcl : (gx_s g).vm.findClass y.cls = some r0.cls := findClass_of_methodNamed hnamed
  cases hcn.symm.trans hcl
  have hselP : selectMethod (gx_e g).platform (gx_s g).vm cellB.cls r0 = .method r0 := selectMethod_private hmethM (hpriv r0 r hnamed hmethM)
  have hlen : As.length = r.sig.parameters.length := by
    have h8 := hd.2.2
    rw [hsigR] at h8
    exact hN.trans (Option.some.inj h8).symm
  have hdc : decode (gx_c g).code pc = .ok (.invokevirtual index, 3) := by rw [F.b]; exact hdg
  obtain ⟨vm₁, X₁, hstep₁⟩ := X.invokevirtual F.x F.own (F.ts _ h1) hnamed hmethM hstM hck hni ⟨hd.1, hd.2.1⟩ (a := b) (cell := cellB) (by rw [hT]; exact hcB)
    (fun z h => by rw [h] at hobj; cases hobj) hselP hmethM habM hck hni (g := F0 (gx_m g) pc ls (As.reverse ++ .ref b :: rest)) rfl (argsL := As) (rest := rest) hlen rfl hdc
  exact ⟨_, r0, vm₁, hdc, hnamed, X₁, fun target h => hstep₁ _ fun acts => by rw [doInvoke_state]; exact h⟩
/-- an own method, chosen by its own class -/
theorem iv_own {C : String} {index N : Nat} {y : MethodName} {bytes : ByteArray} {maxL : Nat} {ret : Option FieldType} {b : Nat} {As st0 : List Value} (F : Fx g cc nL own d mc ms K)
    (hG : GoodIn lw_all (wsV own index C y (ws_ y bytes maxL ret)))
    (hd : y.cls = C ∧ y.cls ≠ "java/lang/invoke/MethodHandle" ∧ y.cls ≠ "java/lang/invoke/VarHandle" ∧ (parseMethodDescriptor y.desc).map (fun d => d.parameters.length) = some N)
    (hrecv : ∀ (H : Heap) (locs : List Loc), Pic w H → va_S (gx_A g) (gx_s g).heap H locs → ∃ cell : Cell, H[b]? = some cell ∧ cell.vm.isStatics = false ∧ (gx_s g).vm.findClass C = some cell.cls)
    (hN : As.length = N) (hst0 : st0 = As.reverse ++ .ref b :: rest) (hdg : decode cc pc = .ok (.invokevirtual index, 3)) : InvW Pic g nL w k n pc lv st0 (.ref b :: As) rest y := by
  intro H locs ls T hP hS hl hT X
  subst hst0
  have ok : ∀ w ∈ wsV own index C y (ws_ y bytes maxL ret), w.before (gx_a g) (gx_s g) = true := fun w h => F.ts w (hG w h).1
  obtain ⟨cellB, hcB, hobj, hcls⟩ := hrecv H locs hP hS
  obtain ⟨mk, methM, hnamed, hmethM, hstM, habM⟩ := Cond.instanceMethod_spec (ok (.instanceMethod y) (by simp [wsV]))
  obtain ⟨methM', cM, hmethM', -, -, -, -, -, -, hsigM⟩ := Cond.code_spec hnamed (ok (.code y bytes maxL ret) (by simp [wsV, ws_]))
  cases hmethM.symm.trans hmethM'
  obtain ⟨c2, r2, m2, q1, q2, q3, q4, kP, hkP, hkPi⟩ := Cond.selects_spec (ok (.selects C y y) (by simp [wsV]))
  cases hcls.symm.trans q1
  cases (State.methodFound?_of_named hnamed ⟨hd.2.1, hd.2.2.1⟩).symm.trans q2
  cases hnamed.symm.trans q3
  have hselP : selectMethod (gx_e g).platform (gx_s g).vm cellB.cls mk = .method mk := by rw [Launch.admits_selectMethod X.admits]; exact q4
  have hlen : As.length = methM.sig.parameters.length := by
    have h8 := hd.2.2.2
    rw [hsigM] at h8
    exact hN.trans (Option.some.inj h8).symm
  have hdc : decode (gx_c g).code pc = .ok (.invokevirtual index, 3) := by rw [F.b]; exact hdg
  obtain ⟨vm₁, X₁, hstep₁⟩ := X.invokevirtual F.x F.own (ok (.methodLink own index y) (by simp [wsV])) hnamed hmethM hstM hkP hkPi ⟨hd.2.1, hd.2.2.1⟩ (a := b) (cell := cellB) (by rw [hT]; exact hcB)
    (fun z h => by rw [h] at hobj; cases hobj) hselP hmethM habM hkP hkPi (g := F0 (gx_m g) pc ls (As.reverse ++ .ref b :: rest)) rfl (argsL := As) (rest := rest) hlen rfl hdc
  exact ⟨_, mk, vm₁, hdc, hnamed, X₁, fun target h => hstep₁ _ fun acts => by rw [doInvoke_state]; exact h⟩
theorem word_ini {C : String} {args : Array Value} {s : State} (h : (Cond.initialized C).before args s = true) : ∀ (a' : Array Value) (U : State), s.WarmedH U.vm → (Cond.initialized C).before a' U = true := fun a' U hW => word_at hW (Or.inl (by first | rfl | simp [Cond.onTables, Cond.keeps, Cond.steady])) h
/-- the callee returns -/
theorem ca_R0 {y : MethodName} {mc' ms' : Nat} {as st0 : List Value} {A : Nat → Prop} {post : Option Value → α → Prop} (hKs : Kst (gx_A g) K) (F : Fx g cc nL own d mc ms K) (hA : ∀ q, A q → gx_A g q)
    (hK : Back (gx_l g) (gx_R g) (gx_p g) (gx_e g) (gx_b g) (gx_s g) (gx_a g) y 3 8 (PreOf (gx_R g) mc' ms' (fun v U => v = as.toArray ∧ Pic w U.heap ∧ K U)) (PostOf (Qc_ Pic A post) mc' ms' A))
    (hI : InvW Pic g nL w k n pc lv st0 as rest y) (hc : k + mc' ≤ mc) (hs : n + ms' ≤ ms) (hst : (rest.map fun v => v.category).sum ≤ 8)
    (kk : ∀ (v : Option Value) (w' : α), post v w' → Wd Pic g nL w' (k + mc') (n + ms') (pc + 3) lv (v.toList ++ rest)) : Wd Pic g nL w k n pc lv st0 := by
  refine ca_go (a := as.toArray) hA (fun H locs ls hP hS hl => ?_) kk
  intro T hT X
  obtain ⟨ig, mk, vm₁, hdc, hn, X₁, st⟩ := hI H locs ls T hP hS hl hT X
  have hsz : ls.size = (gx_c g).maxLocals := by rw [F.ml]; exact hl.1
  obtain ⟨v, ⟨U', l2, c2, s2⟩, X', ⟨g', mk', t, L, e1, e2, hq, h1, hL, h2, h3⟩, hsteps⟩ := hK (gx_m g) (gx_me g) (gx_c g) ⟨T.setVm vm₁, locs, k, n⟩ (F0 (gx_m g) pc ls rest) ig mk as.toArray X₁ rfl hsz hdc (lv_room hst) (X₁.named hn)
    ⟨Nat.le_trans hc F.ce, Nat.le_trans hs F.sl, rfl, by show Pic w T.heap; rw [hT]; exact hP, hKs _ _ X₁.warmed (fun q q1 q2 => by show T.heap[q]? = _; rw [hT]; exact hS.2.1 q q1 q2) F.k⟩
  dsimp only [Pt.U, Pt.locs, Pt.cells, Pt.slots] at X' e1 e2 h1 h2 h3 hsteps
  subst h1; subst h2; subst h3
  exact ⟨v, (T.setVm vm₁).calling g' mk' as.toArray, t, U', L, hT, X', hL, e1, e2, hq, fun target h => st _ (hsteps.trans h)⟩
theorem ca_R {y : MethodName} {bytes : ByteArray} {maxL d' mc' ms' : Nat} {ret : Option FieldType} {as st0 : List Value} {A : Nat → Prop} {post : Option Value → α → Prop} (hKs : Kst (gx_A g) K) (F : Fx g cc nL own d mc ms K) (hA : ∀ q, A q → gx_A g q)
    (hM : Cn (gx_l g) y (ws_ y bytes maxL ret) d' mc' ms' as Pic K A w post) (hcode : Cond.code y bytes maxL ret ∈ lw_all) (hini : Cond.initialized y.cls ∈ lw_all)
    (hI : InvW Pic g nL w k n pc lv st0 as rest y) (hdd : d' + 1 ≤ d) (hml : maxL ≤ 21) (hc : k + mc' ≤ mc) (hs : n + ms' ≤ ms) (hst : (rest.map fun v => v.category).sum ≤ 8)
    (kk : ∀ (v : Option Value) (w' : α), post v w' → Wd Pic g nL w' (k + mc') (n + ms') (pc + 3) lv (v.toList ++ rest)) : Wd Pic g nL w k n pc lv st0 := by
  obtain ⟨hfr, hlo⟩ := rm_ok (maxL := maxL) (d' := d') (mc' := mc') (ms' := ms') F hdd hml
  exact ca_R0 hKs F hA (back_of (bytes := bytes) (maxL := maxL) (ret := ret) hM (fun a U g' mk q => ⟨q.1, q.2.1, hKs U _ (State.WarmedH.refl U) (fun _ _ _ => rfl) q.2.2⟩) rfl rfl hfr hlo (pay_in F.ts (lw_meth hcode)) List.mem_cons_self (word_ini (F.ts _ hini))) hI hc hs hst kk
theorem ca_RW {y : MethodName} {bytes : ByteArray} {maxL d' mc' ms' : Nat} {ret : Option FieldType} {hh : List (Nat × Nat × Nat × Nat)} {as st0 : List Value} {A : Nat → Prop} {post : Option Value → α → Prop} (hKs : Kst (gx_A g) K) (F : Fx g cc nL own d mc ms K) (hA : ∀ q, A q → gx_A g q)
    (hM : Cn (gx_l g) y (wsW_ y bytes maxL ret hh) d' mc' ms' as Pic K A w post) (hG : GoodIn lw_all (wsW_ y bytes maxL ret hh)) (hini : Cond.initialized y.cls ∈ lw_all)
    (hI : InvW Pic g nL w k n pc lv st0 as rest y) (hdd : d' + 1 ≤ d) (hml : maxL ≤ 21) (hc : k + mc' ≤ mc) (hs : n + ms' ≤ ms) (hst : (rest.map fun v => v.category).sum ≤ 8)
    (kk : ∀ (v : Option Value) (w' : α), post v w' → Wd Pic g nL w' (k + mc') (n + ms') (pc + 3) lv (v.toList ++ rest)) : Wd Pic g nL w k n pc lv st0 := by
  obtain ⟨hfr, hlo⟩ := rm_ok (maxL := maxL) (d' := d') (mc' := mc') (ms' := ms') F hdd hml
  exact ca_R0 hKs F hA (va_backW (hh := hh) (bytes := bytes) (maxL := maxL) (ret := ret) hM (fun a U g' mk q => ⟨q.1, q.2.1, hKs U _ (State.WarmedH.refl U) (fun _ _ _ => rfl) q.2.2⟩) rfl rfl hfr hlo (pay_in F.ts hG) List.mem_cons_self (word_ini (F.ts _ hini))) hI hc hs hst kk
/-- the callee throws -/
theorem ca_X {y : MethodName} {bytes : ByteArray} {maxL d' mc' ms' : Nat} {ret : Option FieldType} {as st0 : List Value} {A : Nat → Prop} {post : Nat → α → Prop} (hKs : Kst (gx_A g) K) (F : Fx g cc nL own d mc ms K) (hA : ∀ q, A q → gx_A g q)
    (hM : CnX (gx_l g) y (ws_ y bytes maxL ret) d' mc' ms' as Pic K A w post) (hcode : Cond.code y bytes maxL ret ∈ lw_all) (hini : Cond.initialized y.cls ∈ lw_all)
    (hI : InvW Pic g nL w k n pc lv st0 as rest y) (hdd : d' + 1 ≤ d) (hml : maxL ≤ 21) (hc : k + mc' ≤ mc) (hs : n + ms' ≤ ms) (hst : (rest.map fun v => v.category).sum ≤ 8)
    (kk : ∀ (a : Nat) (w' : α), post a w' → WdT Pic g nL w' (k + mc') (n + ms') pc lv rest a) : Wd Pic g nL w k n pc lv st0 := by
  obtain ⟨hfr, hlo⟩ := rm_ok (maxL := maxL) (d' := d') (mc' := mc') (ms' := ms') F hdd hml
  have hK : BackX (gx_l g) (gx_R g) (gx_p g) (gx_e g) (gx_b g) (gx_s g) (gx_a g) y 3 8 (PreOf (gx_R g) mc' ms' (fun v U => v = as.toArray ∧ Pic w U.heap ∧ K U)) (PostX (QcX Pic A post) mc' ms' A) :=
    backX_of (bytes := bytes) (maxL := maxL) (ret := ret) hM (fun a U g' mk q => ⟨q.1, q.2.1, hKs U _ (State.WarmedH.refl U) (fun _ _ _ => rfl) q.2.2⟩) rfl rfl hfr hlo (pay_in F.ts (lw_meth hcode)) List.mem_cons_self (word_ini (F.ts _ hini))
  intro H locs ls hP hS hl T hT X
  obtain ⟨ig, mk, vm₁, hdc, hn, X₁, st⟩ := hI H locs ls T hP hS hl hT X
  have hsz : ls.size = (gx_c g).maxLocals := by rw [F.ml]; exact hl.1
  obtain ⟨a, ⟨U', l2, c2, s2⟩, X', ⟨g', mk', t, L, e1, e2, ⟨⟨a', w', ha, hp, hB⟩, hz, hk⟩, h1, hL, h2, h3⟩, hsteps⟩ := hK (gx_m g) (gx_me g) (gx_c g) ⟨T.setVm vm₁, locs, k, n⟩ (F0 (gx_m g) pc ls rest) ig mk as.toArray X₁ rfl hsz hdc (lv_room hst) (X₁.named hn)
    ⟨Nat.le_trans hc F.ce, Nat.le_trans hs F.sl, rfl, by show Pic w T.heap; rw [hT]; exact hP, hKs _ _ X₁.warmed (fun q q1 q2 => by show T.heap[q]? = _; rw [hT]; exact hS.2.1 q q1 q2) F.k⟩
  dsimp only [Pt.U, Pt.locs, Pt.cells, Pt.slots] at X' e1 e2 h1 h2 h3 hsteps
  subst h1; subst h2; subst h3
  cases ha
  have h0 : ((T.setVm vm₁).calling g' mk' as.toArray).heap = H := hT
  rw [h0] at hz hk
  have hS' : va_S (gx_A g) (gx_s g).heap U'.heap (locs ++ L) := ⟨Nat.le_trans hS.1 (by rw [e1]; exact hz), fun q h1 h2 => by rw [e1, hk q (Nat.lt_of_lt_of_le h1 hS.1) (fun z => h2 (hA q z))]; exact hS.2.1 q h1 h2, fun q hq => by
      rcases List.mem_append.mp hq with h | h
      · exact hS.2.2 q h
      · exact hA _ (hL q h)⟩
  obtain ⟨t2, a1, b1⟩ := kk a w' hp U'.heap (locs ++ L) ls (by rw [e1]; exact hB) hS' hl U' rfl X'
  exact ⟨t2, st _ (hsteps.trans a1), b1⟩
end IV
