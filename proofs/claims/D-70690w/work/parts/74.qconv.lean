/-! FROM CONTRACTS OVER THE EXACT WORLD TO CONTRACTS OVER THE LAZY ONE; allOwed; calls of methods with handlers -/
theorem cn_q {l : Launch} {y : MethodName} {ws : List Cond} {d mc ms : Nat} {as : List Value} {x : Hx} {M : Bool × Bool} {ad : Nat → Nat} {ds : Nat → Option Lay} {cm : Mem} {K : State → Prop} {A : Nat → Prop} {post : Option Value → Hw → Prop}
    (h : ∀ ad' ds' cm', QA M ad ds cm ad' ds' cm' → ∃ cx, (∀ H, PicH x (ad', ds', cm') H → PicH x (ad', ds', cx) H) ∧ Cn l y ws d mc ms as (PicH x) K A (ad', ds', cx) (fun v w' => ∃ w2, post v w2 ∧ ∀ H, PicH x w' H → PicQ x M w2 H)) : Cn l y ws d mc ms as (PicQ x M) K A (ad, ds, cm) post := by
  intro p e ha hc hk s m args below hf happ hP hKx
  obtain ⟨rfl, ⟨ad', ds', cm', h1, h2⟩, hK⟩ := hP
  obtain ⟨cx, g1, g2⟩ := h ad' ds' cm' h2
  obtain ⟨n, o, r1, r2, r3, ⟨⟨v, w', e1, ⟨w2, e2, e3⟩, e4⟩, e5⟩, r5⟩ := g2 p e ha hc hk s m _ below hf happ ⟨rfl, g1 _ h1, hK⟩ trivial
  exact ⟨n, o, r1, r2, r3, ⟨⟨v, w2, e1, e2, e3 _ e4⟩, e5⟩, r5⟩
theorem cn_post {α : Type} {l : Launch} {y : MethodName} {ws : List Cond} {d mc ms : Nat} {as : List Value} {Pic : α → Heap → Prop} {K : State → Prop} {A : Nat → Prop} {w : α} {post post' : Option Value → α → Prop} (h : Cn l y ws d mc ms as Pic K A w post) (hp : ∀ v w', post v w' → post' v w') : Cn l y ws d mc ms as Pic K A w post' := by
  intro p e ha hc hk s m args below hf happ hP hKx
  obtain ⟨n, o, r1, r2, r3, ⟨⟨v, w', e1, e2, e4⟩, e5⟩, r5⟩ := h p e ha hc hk s m args below hf happ hP hKx
  exact ⟨n, o, r1, r2, r3, ⟨⟨v, w', e1, hp v w' e2, e4⟩, e5⟩, r5⟩
theorem jk_self {w m : Mem} : jk w (jk w m) = jk w m := by
  funext r j
  unfold jk
  split <;> rfl
/-- the exact world told by the ints of the lazy one -/
theorem qa_jk {M : Bool × Bool} {ad ad' : Nat → Nat} {ds ds' : Nat → Option Lay} {cm cm' : Mem} (h : QA M ad ds cm ad' ds' cm') (hf : FrQ cm) : QA M ad ds cm ad' ds' (jk cm' cm) := qa_step h hf (fun _ _ _ => rfl)
theorem metX0_allOwed_q (l : Launch) (x : Hx) (M : Bool × Bool) (ad : Nat → Nat) (ds : Nat → Option Lay) (m : Mem) (d : Nat) (hfr : FrQ m) (hd : d < 20) : Cn l yX0_allOwed (ws_ yX0_allOwed cX0_allOwed 4 (some .int)) 5 0 0 [.ref (ad 0), .int (nI d)] (PicQ x M) (KC x) (hx_A x) (ad, ds, m) (fun rv_ w_ => rv_ = some (.int (rX0_allOwed d (nn m 32) m)) ∧ w_ = (ad, ds, m)) := by
  refine cn_q (fun ad' ds' cm' h => ?_)
  obtain ⟨⟨q, N, hD⟩, ⟨s0, -⟩, hP⟩ := qa_dd (x := x) h hfr
  refine ⟨jk cm' m, hP, ?_⟩
  have e0 : ad' 0 = ad 0 := h.1 0 (nhd (by decide))
  have hM := metX0_allOwed l x ad' ds' (jk cm' m) d _ _ _ _ _ _ _ q N hD (by rw [jk_rd (by decide)]; exact s0) hd
  rw [e0, jk_allOwed] at hM
  refine cn_post hM (fun v w' hp => ⟨(ad, ds, m), ⟨hp.1, rfl⟩, fun H hH => ⟨ad', ds', jk cm' m, by rw [hp.2] at hH; exact hH, qa_jk h hfr⟩⟩)
