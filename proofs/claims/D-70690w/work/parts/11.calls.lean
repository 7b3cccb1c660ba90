/-! ENTRY, RETURN AND CALLS OVER Wd -/
section EN
variable {α : Type} {Pic : α → Heap → Prop} {cc : ByteArray} {nL : Nat} {own : String} {d mc ms : Nat} {K : State → Prop} {A : Nat → Prop} {w : α}
/-- the rule of a walk's end, an int (or small type) on the stack -/
def RetI (g : Gx) (cc : ByteArray) (nL : Nat) (Pic : α → Heap → Prop) (post : Option Value → α → Prop) (ty : FieldType) (mc ms : Nat) : Prop :=
  ∀ (w' : α) (k n pc : Nat) (lv : Lv) (v : Int32), k ≤ mc → n ≤ ms → decode cc pc = .ok (.ireturn, 1) → narrow ty (.int v) = .int v → post (some (.int v)) w' → Wd Pic g nL w' k n pc lv [.int v]
def RetL (g : Gx) (cc : ByteArray) (nL : Nat) (Pic : α → Heap → Prop) (post : Option Value → α → Prop) (mc ms : Nat) : Prop :=
  ∀ (w' : α) (k n pc : Nat) (lv : Lv) (v : Int64), k ≤ mc → n ≤ ms → decode cc pc = .ok (.lreturn, 1) → post (some (.long v)) w' → Wd Pic g nL w' k n pc lv [.long v]
def RetV (g : Gx) (cc : ByteArray) (nL : Nat) (Pic : α → Heap → Prop) (post : Option Value → α → Prop) (mc ms : Nat) : Prop :=
  ∀ (w' : α) (k n pc : Nat) (lv : Lv), k ≤ mc → n ≤ ms → decode cc pc = .ok (.return_, 1) → post none w' → Wd Pic g nL w' k n pc lv []
def RetA (g : Gx) (cc : ByteArray) (nL : Nat) (Pic : α → Heap → Prop) (post : Option Value → α → Prop) (mc ms : Nat) : Prop :=
  ∀ (w' : α) (k n pc : Nat) (lv : Lv) (v : Value), k ≤ mc → n ≤ ms → v.isRef = true → decode cc pc = .ok (.areturn, 1) → post (some v) w' → Wd Pic g nL w' k n pc lv [v]
abbrev Qc_ (Pic : α → Heap → Prop) (A : Nat → Prop) (post : Option Value → α → Prop) : Array Value → State → Outcome → State → Prop := fun _ st o t => (∃ (v : Option Value) (w' : α), o = .returned v ∧ post v w' ∧ Pic w' t.heap) ∧ va_F A st t
/-- the start of a contract's proof -/
theorem cn_start {l : Launch} {y : MethodName} {ret : Option FieldType} {ws ws' : List Cond} {as : List Value} {post : Option Value → α → Prop} (hy : plainName y.cls = true) (hw : ws = Cond.code y cc nL ret :: ws') (hws : ∀ w ∈ lw_all, w ∈ ws) (hn : (lg_sl as).length ≤ nL) (hown : y.cls = own)
    (body : ∀ g : Gx, gx_l g = l → Fx g cc nL own d mc ms K → (gx_me g).sig.returnType = ret → gx_A g = A → gx_Q g = MQ (gx_b g) (Qc_ Pic A post) (gx_a g) (gx_s g) mc ms A → gx_a g = as.toArray → ((gx_me g).name = y.name) → (gx_s g).heap.size ≤ (gx_s g).heap.size → Wd Pic g nL w 0 0 0 (lv_args 0 as) []) :
    Cn l y ws d mc ms as Pic K A w post := by
  refine Met.ofW (cc := cc) (maxL := nL) (ret := ret) hy hw ?_
  intro p e s m args below meth c s₁ B hml hv
  obtain ⟨rfl, hP, hK⟩ := hv
  have hts := atoms_spec (ws := ws) B.pre
  have hts : ∀ w ∈ lw_all, w.before _ s = true := fun w h => hts w (hws w h)
  have hwn : s.vm.findClass y.cls = some m.cls := findClass_of_methodNamed B.named
  have hl := lv_entry as (n := nL) hn
  rw [lg_entry_eq]
  exact body (p, l, e, (headSpec ws (rm_ d mc ms)).room, s, m, as.toArray, below, meth, c, A, MQ below (Qc_ Pic A post) as.toArray s mc ms A) rfl
    ⟨B.exec, B.bytes, hml, by rw [← hown]; exact hwn, hts, B.notSynchronized, Nat.le_refl _, Nat.le_refl _, Nat.le_refl _, Nat.le_refl _, hK⟩ B.returns rfl rfl rfl (name_of_methodNamed B.named B.method).1 (Nat.le_refl _) s.heap [] _ hP va_S.rf hl
theorem ret_i {g : Gx} {ty : FieldType} {post : Option Value → α → Prop} (F : Fx g cc nL own d mc ms K) (hr : (gx_me g).sig.returnType = some ty) (hA : gx_A g = A) (hQ : gx_Q g = MQ (gx_b g) (Qc_ Pic A post) (gx_a g) (gx_s g) mc ms A) : RetI g cc nL Pic post ty mc ms := by
  intro w' k n pc lv v hk hn hd hnar hp H locs ls hP hS hl
  refine W.widen hk hn ?_
  rw [hA] at hS
  have hlk := F.lk
  show W (gx_p g) (gx_l g) (gx_e g) (gx_R g) (gx_s g) (gx_m g) (gx_a g) (gx_b g) (gx_me g) (gx_c g) H locs mc ms (gx_Q g) _
  rw [hQ]
  exact W.zret (v := v) F.x F.b hr hnar (fun t ht hW => ⟨⟨_, w', rfl, hp, by rw [ht]; exact hP⟩, hS.F ht⟩) hS.2.2 hd hlk
theorem ret_l {g : Gx} {post : Option Value → α → Prop} (F : Fx g cc nL own d mc ms K) (hr : (gx_me g).sig.returnType = some .long) (hA : gx_A g = A) (hQ : gx_Q g = MQ (gx_b g) (Qc_ Pic A post) (gx_a g) (gx_s g) mc ms A) : RetL g cc nL Pic post mc ms := by
  intro w' k n pc lv v hk hn hd hp H locs ls hP hS hl
  refine W.widen hk hn ?_
  rw [hA] at hS
  have hlk := F.lk
  show W (gx_p g) (gx_l g) (gx_e g) (gx_R g) (gx_s g) (gx_m g) (gx_a g) (gx_b g) (gx_me g) (gx_c g) H locs mc ms (gx_Q g) _
  rw [hQ]
  exact W.lret (v := v) F.x F.b hr (fun t ht hW => ⟨⟨_, w', rfl, hp, by rw [ht]; exact hP⟩, hS.F ht⟩) hS.2.2 hd hlk
theorem ret_v {g : Gx} {post : Option Value → α → Prop} (F : Fx g cc nL own d mc ms K) (hr : (gx_me g).sig.returnType = none) (hA : gx_A g = A) (hQ : gx_Q g = MQ (gx_b g) (Qc_ Pic A post) (gx_a g) (gx_s g) mc ms A) : RetV g cc nL Pic post mc ms := by
  intro w' k n pc lv hk hn hd hp H locs ls hP hS hl
  refine W.widen hk hn ?_
  rw [hA] at hS
  have hlk := F.lk
  show W (gx_p g) (gx_l g) (gx_e g) (gx_R g) (gx_s g) (gx_m g) (gx_a g) (gx_b g) (gx_me g) (gx_c g) H locs mc ms (gx_Q g) _
  rw [hQ]
  exact W.vret F.x F.b hr (fun t ht hW => ⟨⟨_, w', rfl, hp, by rw [ht]; exact hP⟩, hS.F ht⟩) hS.2.2 hd hlk
theorem cn_i {l : Launch} {y : MethodName} {ty : FieldType} {as : List Value} {post : Option Value → α → Prop} (hy : plainName y.cls = true) (hn : (lg_sl as).length ≤ nL) (hown : y.cls = own)
    (body : ∀ g : Gx, gx_l g = l → gx_A g = A → Fx g cc nL own d mc ms K → RetI g cc nL Pic post ty mc ms → Wd Pic g nL w 0 0 0 (lv_args 0 as) []) : Cn l y (ws_ y cc nL (some ty)) d mc ms as Pic K A w post :=
  cn_start hy rfl (fun w h => List.mem_cons_of_mem _ h) hn hown (fun g hl F hr hA hQ _ _ _ => body g hl hA F (ret_i F hr hA hQ))
theorem cn_l {l : Launch} {y : MethodName} {as : List Value} {post : Option Value → α → Prop} (hy : plainName y.cls = true) (hn : (lg_sl as).length ≤ nL) (hown : y.cls = own)
    (body : ∀ g : Gx, gx_l g = l → gx_A g = A → Fx g cc nL own d mc ms K → RetL g cc nL Pic post mc ms → Wd Pic g nL w 0 0 0 (lv_args 0 as) []) : Cn l y (ws_ y cc nL (some .long)) d mc ms as Pic K A w post :=
  cn_start hy rfl (fun w h => List.mem_cons_of_mem _ h) hn hown (fun g hl F hr hA hQ _ _ _ => body g hl hA F (ret_l F hr hA hQ))
theorem cn_v {l : Launch} {y : MethodName} {as : List Value} {post : Option Value → α → Prop} (hy : plainName y.cls = true) (hn : (lg_sl as).length ≤ nL) (hown : y.cls = own)
    (body : ∀ g : Gx, gx_l g = l → gx_A g = A → Fx g cc nL own d mc ms K → RetV g cc nL Pic post mc ms → Wd Pic g nL w 0 0 0 (lv_args 0 as) []) : Cn l y (ws_ y cc nL none) d mc ms as Pic K A w post :=
  cn_start hy rfl (fun w h => List.mem_cons_of_mem _ h) hn hown (fun g hl F hr hA hQ _ _ _ => body g hl hA F (ret_v F hr hA hQ))
end EN
section CA
variable {α : Type} {Pic : α → Heap → Prop} {g : Gx} {cc : ByteArray} {nL : Nat} {own : String} {d mc ms : Nat} {K : State → Prop} {w : α} {k n pc : Nat} {lv : Lv} {rest : List Value}
/-- behind a call: any answer that the callee's post allows -/
theorem ca_go {st0 : List Value} {mc' ms' : Nat} {A : Nat → Prop} {post : Option Value → α → Prop} {a : Array Value} (hA : ∀ q, A q → gx_A g q)
    (hr : ∀ (H : Heap) (locs : List Loc) (ls : Array Slot), Pic w H → va_S (gx_A g) (gx_s g).heap H locs → lv_has ls nL lv → va_Run (gx_p g) (gx_l g) (gx_e g) (gx_R g) (gx_s g) (gx_m g) (gx_a g) (gx_b g) (gx_me g) (gx_c g) H locs k n mc' ms' (F0 (gx_m g) pc ls st0) rest (Qc_ Pic A post a) A)
    (kk : ∀ (v : Option Value) (w' : α), post v w' → Wd Pic g nL w' (k + mc') (n + ms') (pc + 3) lv (v.toList ++ rest)) : Wd Pic g nL w k n pc lv st0 := by
  intro H locs ls hP hS hl T hT X
  obtain ⟨v, st₀, t, T', L, h0, X', hL, e1, e2, ⟨⟨v', w', hv, hp, hB⟩, hz, hk⟩, st⟩ := hr H locs ls hP hS hl T hT X
  cases hv
  rw [h0] at hz hk
  have hS' : va_S (gx_A g) (gx_s g).heap T'.heap (locs ++ L) := ⟨Nat.le_trans hS.1 (by rw [e1]; exact hz), fun q h1 h2 => by rw [e1, hk q (Nat.lt_of_lt_of_le h1 hS.1) (fun z => h2 (hA q z))]; exact hS.2.1 q h1 h2, fun q hq => by
      rcases List.mem_append.mp hq with h | h
      · exact hS.2.2 q h
      · exact hA _ (hL q h)⟩
  obtain ⟨t2, a1, b1⟩ := kk v w' hp T'.heap (locs ++ L) ls (by rw [e1]; exact hB) hS' hl T' rfl X'
  exact ⟨t2, st t2 a1, b1⟩
/-- a call through an object of the class C of which y is a method -/
theorem ca_V {C : String} {index : Nat} {y : MethodName} {bytes : ByteArray} {maxL d' mc' ms' N : Nat} {ret : Option FieldType} {b : Nat} {As : List Value} {A : Nat → Prop} {post : Option Value → α → Prop} (hKs : Kst (gx_A g) K) (F : Fx g cc nL own d mc ms K) (hA : ∀ q, A q → gx_A g q)
    (hM : Cn (gx_l g) y (ws_ y bytes maxL ret) d' mc' ms' (.ref b :: As) Pic K A w post)
    (hG : GoodIn lw_all (wsV own index C y (ws_ y bytes maxL ret)))
    (hrecv : ∀ H, Pic w H → ∃ cell : Cell, H[b]? = some cell ∧ cell.vm.isStatics = false ∧ (gx_s g).vm.findClass C = some cell.cls)
    (hd : y.cls = C ∧ y.cls ≠ "java/lang/invoke/MethodHandle" ∧ y.cls ≠ "java/lang/invoke/VarHandle" ∧ (parseMethodDescriptor y.desc).map (fun d => d.parameters.length) = some N)
    (hN : As.length = N) (hdd : d' + 1 ≤ d) (hml : maxL ≤ 21) (hc : k + mc' ≤ mc) (hs : n + ms' ≤ ms) (hst : (rest.map fun v => v.category).sum ≤ 8) (hdg : decode cc pc = .ok (.invokevirtual index, 3))
    (kk : ∀ (v : Option Value) (w' : α), post v w' → Wd Pic g nL w' (k + mc') (n + ms') (pc + 3) lv (v.toList ++ rest)) : Wd Pic g nL w k n pc lv (As.reverse ++ .ref b :: rest) := by
  refine ca_go (a := (Value.ref b :: As).toArray) hA (fun H locs ls hP hS hl => ?_) kk
  refine va_runV (Ts := lw_all) ⟨F.x, F.b, F.ml, F.own, F.ts⟩ hM (cwV (C := C) N F.ts hG rfl rfl rfl hd ⟨Nat.le_trans hdd F.fr, ?_⟩) ⟨fun a U g' mk q => ⟨q.1, q.2.1, hKs U _ (State.WarmedH.refl U) (fun _ _ _ => rfl) q.2.2⟩, hrecv H hP, fun U hU hW => ⟨rfl, by rw [hU]; exact hP, hKs _ _ hW (fun q h1 h2 => by rw [hU]; exact hS.2.1 q h1 h2) F.k⟩⟩ rfl hN hl.1 rfl (lv_room hst) hdg ⟨Nat.le_trans hc F.ce, Nat.le_trans hs F.sl⟩
  have h1 := F.lo
  show 8 + (maxL + 11) + 40 * d' ≤ _
  omega
/-- a static call -/
theorem ca_S {index : Nat} {y : MethodName} {bytes : ByteArray} {maxL d' mc' ms' N : Nat} {ret : Option FieldType} {As : List Value} {A : Nat → Prop} {post : Option Value → α → Prop} (hKs : Kst (gx_A g) K) (F : Fx g cc nL own d mc ms K) (hA : ∀ q, A q → gx_A g q)
    (hM : Cn (gx_l g) y (ws_ y bytes maxL ret) d' mc' ms' As Pic K A w post)
    (hG : GoodIn lw_all (va_wsS own index y (ws_ y bytes maxL ret)))
    (hd : y.cls ≠ "java/lang/invoke/MethodHandle" ∧ y.cls ≠ "java/lang/invoke/VarHandle" ∧ (parseMethodDescriptor y.desc).map (fun d => d.parameters.length) = some N)
    (hN : As.length = N) (hdd : d' + 1 ≤ d) (hml : maxL ≤ 21) (hc : k + mc' ≤ mc) (hs : n + ms' ≤ ms) (hst : (rest.map fun v => v.category).sum ≤ 8) (hdg : decode cc pc = .ok (.invokestatic index, 3))
    (kk : ∀ (v : Option Value) (w' : α), post v w' → Wd Pic g nL w' (k + mc') (n + ms') (pc + 3) lv (v.toList ++ rest)) : Wd Pic g nL w k n pc lv (As.reverse ++ rest) := by
  refine ca_go (a := As.toArray) hA (fun H locs ls hP hS hl => ?_) kk
  refine va_runS (Ts := lw_all) ⟨F.x, F.b, F.ml, F.own, F.ts⟩ hM (va_cwS N F.ts hG rfl rfl rfl hd ⟨Nat.le_trans hdd F.fr, ?_⟩) ⟨fun a U g' mk q => ⟨q.1, q.2.1, hKs U _ (State.WarmedH.refl U) (fun _ _ _ => rfl) q.2.2⟩, fun U hU hW => ⟨rfl, by rw [hU]; exact hP, hKs _ _ hW (fun q h1 h2 => by rw [hU]; exact hS.2.1 q h1 h2) F.k⟩⟩ rfl hN hl.1 rfl (lv_room hst) hdg ⟨Nat.le_trans hc F.ce, Nat.le_trans hs F.sl⟩
  have h1 := F.lo
  show 8 + (maxL + 11) + 40 * d' ≤ _
  omega
end CA
/-- a loop that counts: n turns of f from x (by choice: it isn't unfolded by accident) -/
def it0 {β : Type} (f : Nat → β → β) (x : β) : Nat → β
  | 0 => x
  | n + 1 => f n (it0 f x n)
theorem it_ex {β : Type} (f : Nat → β → β) (x : β) : ∃ F : Nat → β, F 0 = x ∧ ∀ n, F (n + 1) = f n (F n) := ⟨it0 f x, rfl, fun _ => rfl⟩
noncomputable def it {β : Type} (f : Nat → β → β) (x : β) : Nat → β := Classical.choose (it_ex f x)
theorem it_zero {β : Type} (f : Nat → β → β) (x : β) : it f x 0 = x := (Classical.choose_spec (it_ex f x)).1
theorem it_succ {β : Type} (f : Nat → β → β) (x : β) (n : Nat) : it f x (n + 1) = f n (it f x n) := (Classical.choose_spec (it_ex f x)).2 n
theorem it_invN {β : Type} {f : Nat → β → β} {x : β} (P : Nat → β → Prop) (N : Nat) (h0 : P 0 x) (hs : ∀ i b, i < N → P i b → P (i + 1) (f i b)) : ∀ n, n ≤ N → P n (it f x n)
  | 0, _ => by rw [it_zero]; exact h0
  | n + 1, h => by rw [it_succ]; exact hs n _ (by omega) (it_invN P N h0 hs n (by omega))
theorem it_inv {β : Type} {f : Nat → β → β} {x : β} (P : β → Prop) (h0 : P x) (hs : ∀ i b, P b → P (f i b)) (n : Nat) : P (it f x n) := it_invN (fun _ b => P b) n h0 (fun i b _ => hs i b) n (Nat.le_refl n)
theorem it_loop2 {β : Type} (n : Nat) (f : Nat → β → β) (x : β) (I G : Nat → β → Prop) (h0 : I 0 x) (hI : ∀ i b, i < n → I i b → I (i + 1) (f i b)) (hs : ∀ i b, i < n → I i b → b = it f x i → G (i + 1) (f i b) → G i b) (he : ∀ b, I n b → b = it f x n → G n b) : G 0 x := by
  have hall : ∀ i, i ≤ n → I i (it f x i) := it_invN I n h0 hI
  have : ∀ j, j ≤ n → G (n - j) (it f x (n - j)) := by
    intro j
    induction j with
    | zero => exact fun _ => he _ (hall n (Nat.le_refl n)) rfl
    | succ j ih =>
      intro h
      have h1 := ih (by omega)
      have h2 : n - j = (n - (j + 1)) + 1 := by omega
      rw [h2, it_succ] at h1
      exact hs _ _ (by omega) (hall _ (by omega)) rfl h1
  have h := this n (Nat.le_refl n)
  rw [Nat.sub_self, it_zero] at h
  exact h
theorem it_loop {β : Type} (n : Nat) (f : Nat → β → β) (x : β) (I G : Nat → β → Prop) (h0 : I 0 x) (hI : ∀ i b, i < n → I i b → I (i + 1) (f i b)) (hs : ∀ i b, i < n → I i b → G (i + 1) (f i b) → G i b) (he : ∀ b, I n b → b = it f x n → G n b) : G 0 x :=
  it_loop2 n f x I G h0 hI (fun i b hi h _ g => hs i b hi h g) he
theorem it_stay {β : Type} {f : Nat → β → β} {x : β} {P : β → Prop} (hs : ∀ i b, P b → f i b = b) {i n : Nat} (h : P (it f x i)) (hi : i ≤ n) : it f x n = it f x i := by
  induction n with
  | zero => rw [show i = 0 by omega]
  | succ n ih =>
    by_cases e : i = n + 1
    · rw [e]
    · have h1 := ih (by omega)
      rw [it_succ, h1]
      exact hs n _ h
