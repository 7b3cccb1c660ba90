/-! SHORT ROWS FOR THE REFERENCE'S WALKS -/
/-- a truth as an int -/
def b2 (p : Prop) [Decidable p] : Int32 := if p then 1 else 0
theorem b2_t {p : Prop} [Decidable p] (h : p) : b2 p = 1 := if_pos h
theorem b2_f {p : Prop} [Decidable p] (h : ¬ p) : b2 p = 0 := if_neg h
theorem b2_0 {p : Prop} [Decidable p] : b2 p = 0 ↔ ¬ p := by
  unfold b2
  by_cases h : p
  · rw [if_pos h]; exact ⟨fun z => absurd z (by decide), fun z => absurd h z⟩
  · rw [if_neg h]; exact ⟨fun _ => h, fun _ => rfl⟩
theorem b2_n0 {p : Prop} [Decidable p] : ¬ b2 p = 0 ↔ p := by
  rw [b2_0]; exact Decidable.not_not
theorem b2_nar {p : Prop} [Decidable p] : narrow .boolean (.int (b2 p)) = .int (b2 p) := by
  unfold b2
  by_cases h : p
  · rw [if_pos h]; rfl
  · rw [if_neg h]; rfl
theorem b2_vnar {p : Prop} [Decidable p] : vp_nar .boolean (b2 p) = b2 p := by
  unfold b2
  by_cases h : p
  · rw [if_pos h]; rfl
  · rw [if_neg h]; rfl
theorem b2_congr {p q : Prop} [Decidable p] [Decidable q] (h : p ↔ q) : b2 p = b2 q := by
  unfold b2
  by_cases hp : p
  · rw [if_pos hp, if_pos (h.mp hp)]
  · rw [if_neg hp, if_neg (fun z => hp (h.mpr z))]
theorem m2_ff (m : Mem) {f f' i : Nat} (v : Int32) (h : f' ≠ f) : m2 m f i v f' = m f' := by funext j; exact m2_f m v h
theorem m2_id {m : Mem} {f i : Nat} {v : Int32} (h : m f i = v) : m2 m f i v = m := by
  funext f' j
  unfold m2
  by_cases e : f' = f ∧ j = i
  · rw [if_pos e, e.1, e.2, h]
  · rw [if_neg e]
theorem ite_fr {c : Prop} [Decidable c] {A B : Mem} {f : Nat} {y : Nat → Int32} (h1 : A f = y) (h2 : B f = y) : (if c then A else B) f = y := by
  by_cases h : c
  · rw [if_pos h]; exact h1
  · rw [if_neg h]; exact h2
theorem ite_rd {c : Prop} [Decidable c] {A B : Mem} {f j : Nat} {y : Int32} (h1 : A f j = y) (h2 : B f j = y) : (if c then A else B) f j = y := by
  by_cases h : c
  · rw [if_pos h]; exact h1
  · rw [if_neg h]; exact h2
theorem ite_rd2 {c : Prop} [Decidable c] {A B : Mem} {f j : Nat} {y z : Int32} (h1 : A f j = y) (h2 : B f j = z) : (if c then A else B) f j = if c then y else z := by
  by_cases h : c
  · rw [if_pos h, if_pos h]; exact h1
  · rw [if_neg h, if_neg h]; exact h2
theorem ite_rdN {c : Prop} [Decidable c] {A B : Mem} {f j a b : Nat} (h1 : A f j = nI a) (h2 : B f j = nI b) : (if c then A else B) f j = nI (if c then a else b) := by
  by_cases h : c
  · rw [if_pos h, if_pos h]; exact h1
  · rw [if_neg h, if_neg h]; exact h2
theorem ite_fr2 {c : Prop} [Decidable c] {A B : Int32 × Mem} {f : Nat} {y : Nat → Int32} (h1 : A.2 f = y) (h2 : B.2 f = y) : (if c then A else B).2 f = y := by
  by_cases h : c
  · rw [if_pos h]; exact h1
  · rw [if_neg h]; exact h2
theorem it_fr1 {γ : Type} {F : Nat → Mem × γ → Mem × γ} {x : Mem × γ} {f : Nat} (h : ∀ i b, (F i b).1 f = b.1 f) (n : Nat) : (it F x n).1 f = x.1 f := it_inv (fun b => b.1 f = x.1 f) rfl (fun i b hb => (h i b).trans hb) n
theorem it_fr {F : Nat → Mem → Mem} {x : Mem} {f : Nat} (h : ∀ i b, F i b f = b f) (n : Nat) : it F x n f = x f := it_inv (fun b => b f = x f) rfl (fun i b hb => (h i b).trans hb) n
theorem in_ok {t a b : Nat} (h1 : a ≤ t) (h2 : t ≤ b) (hb : b < 2 ^ 31) : ¬ (nI t < nI a) ∧ ¬ (nI b < nI t) := ⟨nI_nlt h1 (by omega), nI_nlt h2 (by omega)⟩
theorem lc_eq {x y : Int64} : lg_cmp x y = 0 ↔ x = y := by
  unfold lg_cmp
  by_cases h1 : y < x
  · rw [if_pos h1]; exact ⟨fun h => absurd h (by decide), fun h => by subst h; exact absurd h1 (Int64.lt_irrefl)⟩
  · rw [if_neg h1]
    by_cases h2 : x = y
    · rw [if_pos h2]; exact ⟨fun _ => h2, fun _ => rfl⟩
    · rw [if_neg h2]; exact ⟨fun h => absurd h (by decide), fun h => absurd h h2⟩
theorem lc_gt {x y : Int64} : 0 < lg_cmp x y ↔ y < x := by
  unfold lg_cmp
  by_cases h1 : y < x
  · rw [if_pos h1]; exact ⟨fun _ => h1, fun _ => by decide⟩
  · rw [if_neg h1]
    by_cases h2 : x = y
    · rw [if_pos h2]; exact ⟨fun h => absurd h (by decide), fun h => absurd h h1⟩
    · rw [if_neg h2]; exact ⟨fun h => absurd h (by decide), fun h => absurd h h1⟩
theorem lc_lt {x y : Int64} : lg_cmp x y < 0 ↔ x < y := by
  have key : ¬ y < x → ¬ x = y → x < y := fun h1 h2 => by
    rw [Int64.lt_iff_toInt_lt] at h1 ⊢
    have h3 : x.toInt ≠ y.toInt := fun h => h2 (Int64.toInt_inj.mp h)
    omega
  unfold lg_cmp
  by_cases h1 : y < x
  · rw [if_pos h1]; exact ⟨fun h => absurd h (by decide), fun h => by rw [Int64.lt_iff_toInt_lt] at h h1; omega⟩
  · rw [if_neg h1]
    by_cases h2 : x = y
    · rw [if_pos h2]; exact ⟨fun h => absurd h (by decide), fun h => by subst h2; exact absurd h h1⟩
    · rw [if_neg h2]; exact ⟨fun _ => key h1 h2, fun _ => by decide⟩
theorem lc_le {x y : Int64} : lg_cmp x y ≤ 0 ↔ x ≤ y := by
  have h := @lc_gt x y
  constructor
  · intro h1
    have h2 : ¬ y < x := fun q => by
      have := h.mpr q
      rw [Int32.lt_iff_toInt_lt] at this
      rw [Int32.le_iff_toInt_le] at h1
      omega
    rw [Int64.lt_iff_toInt_lt] at h2
    rw [Int64.le_iff_toInt_le]
    omega
  · intro h1
    have h2 : ¬ 0 < lg_cmp x y := fun q => by
      have := h.mp q
      rw [Int64.lt_iff_toInt_lt] at this
      rw [Int64.le_iff_toInt_le] at h1
      omega
    rw [Int32.lt_iff_toInt_lt] at h2
    rw [Int32.le_iff_toInt_le]
    omega
theorem lc_ge {x y : Int64} : 0 ≤ lg_cmp x y ↔ y ≤ x := by
  have h := @lc_lt x y
  constructor
  · intro h1
    have h2 : ¬ x < y := fun q => by
      have := h.mpr q
      rw [Int32.lt_iff_toInt_lt] at this
      rw [Int32.le_iff_toInt_le] at h1
      omega
    rw [Int64.lt_iff_toInt_lt] at h2
    rw [Int64.le_iff_toInt_le]
    omega
  · intro h1
    have h2 : ¬ lg_cmp x y < 0 := fun q => by
      have := h.mp q
      rw [Int64.lt_iff_toInt_lt] at this
      rw [Int64.le_iff_toInt_le] at h1
      omega
    rw [Int32.lt_iff_toInt_lt] at h2
    rw [Int32.le_iff_toInt_le]
    omega
section RN
variable {α : Type} {Pic : α → Heap → Prop} {g : Gx} {cc : ByteArray} {nL : Nat} {own : String} {d mc ms : Nat} {K : State → Prop} {w : α} {k n pc : Nat} {lv : Lv} {rest : List Value}
theorem Wd.to {w' : α} {lv' : Lv} {st st' : List Value} (J : Wd Pic g nL w' k n pc lv' st') (h1 : w = w') (h2 : lv = lv') (h3 : st = st') : Wd Pic g nL w k n pc lv st := by subst h1; subst h2; subst h3; exact J
theorem ro_eqi {x y : Int32} (h : x = y) (kk : Wd Pic g nL w k n pc lv (.int y :: rest)) : Wd Pic g nL w k n pc lv (.int x :: rest) := by subst h; exact kk
theorem ro_eql {x y : Int64} (h : x = y) (kk : Wd Pic g nL w k n pc lv (.long y :: rest)) : Wd Pic g nL w k n pc lv (.long x :: rest) := by subst h; exact kk
theorem ro_iaddN (F : Fx g cc nL own d mc ms K) {a b : Nat} (hd : decode cc pc = .ok (.iadd, 1)) (kk : Wd Pic g nL w k n (pc + 1) lv (.int (nI (a + b)) :: rest)) : Wd Pic g nL w k n pc lv (.int (nI b) :: .int (nI a) :: rest) := ro_iadd F hd (ro_eqi (nI_add a b) kk)
theorem ro_imulN (F : Fx g cc nL own d mc ms K) {a b : Nat} (hd : decode cc pc = .ok (.imul, 1)) (kk : Wd Pic g nL w k n (pc + 1) lv (.int (nI (a * b)) :: rest)) : Wd Pic g nL w k n pc lv (.int (nI b) :: .int (nI a) :: rest) := ro_imul F hd (ro_eqi (pk_mul a b) kk)
theorem ro_isubN (F : Fx g cc nL own d mc ms K) {a b : Nat} (h : b ≤ a) (hd : decode cc pc = .ok (.isub, 1)) (kk : Wd Pic g nL w k n (pc + 1) lv (.int (nI (a - b)) :: rest)) : Wd Pic g nL w k n pc lv (.int (nI b) :: .int (nI a) :: rest) := ro_isub F hd (ro_eqi (pk_sub h) kk)
theorem ro_iincN (F : Fx g cc nL own d mc ms K) {i : Nat} {a z : Nat} {lv' : Lv} (hd : decode cc pc = .ok (.iinc i (z : Int), 3)) (j : Nat) (hj : lv[j]? = some (i, .int (nI a))) (hn : i < nL) (ks : List Nat) (hl : lv_pick ((i, Value.int (nI (a + z))) :: lv.filter (fun q => !(q.1 == i) && !(q.1 + 1 == i && q.2.category == 2))) ks = lv') (kk : Wd Pic g nL w k n (pc + 3) lv' rest) : Wd Pic g nL w k n pc lv rest := ro_iinc F hd j hj (show nI a + Int32.ofInt (z : Int) = nI (a + z) from nI_add a z) hn ks hl kk
theorem ro_idecN (F : Fx g cc nL own d mc ms K) {i : Nat} {a b : Nat} {lv' : Lv} (hd : decode cc pc = .ok (.iinc i (-1), 3)) (j : Nat) (hj : lv[j]? = some (i, .int (nI a))) (hab : b + 1 = a) (hn : i < nL) (ks : List Nat) (hl : lv_pick ((i, Value.int (nI b)) :: lv.filter (fun q => !(q.1 == i) && !(q.1 + 1 == i && q.2.category == 2))) ks = lv') (kk : Wd Pic g nL w k n (pc + 3) lv' rest) : Wd Pic g nL w k n pc lv rest := ro_iinc F hd j hj (show nI a + Int32.ofInt (-1) = nI b by subst hab; exact pk_m1 b) hn ks hl kk
theorem ro_icmp_geN (F : Fx g cc nL own d mc ms K) {a b : Nat} {off : Int} {tgt : Nat} (hd : decode cc pc = .ok (.if_icmp .ge off, 3)) (ht : (pc : Int) + off = (tgt : Int)) (ha : a < 2 ^ 31) (hb : b < 2 ^ 31) (kt : b ≤ a → Wd Pic g nL w k n tgt lv rest) (kf : a < b → Wd Pic g nL w k n (pc + 3) lv rest) : Wd Pic g nL w k n pc lv (.int (nI b) :: .int (nI a) :: rest) := ro_icmp_ge F hd ht (fun z => kt ((nI_leI hb ha).mp z)) (fun z => kf (Nat.lt_of_not_le fun q => z ((nI_leI hb ha).mpr q)))
theorem ro_icmp_ltN (F : Fx g cc nL own d mc ms K) {a b : Nat} {off : Int} {tgt : Nat} (hd : decode cc pc = .ok (.if_icmp .lt off, 3)) (ht : (pc : Int) + off = (tgt : Int)) (ha : a < 2 ^ 31) (hb : b < 2 ^ 31) (kt : a < b → Wd Pic g nL w k n tgt lv rest) (kf : b ≤ a → Wd Pic g nL w k n (pc + 3) lv rest) : Wd Pic g nL w k n pc lv (.int (nI b) :: .int (nI a) :: rest) := ro_icmp_lt F hd ht (fun z => kt ((nI_ltI ha hb).mp z)) (fun z => kf (Nat.le_of_not_lt fun q => z ((nI_ltI ha hb).mpr q)))
theorem ro_icmp_gtN (F : Fx g cc nL own d mc ms K) {a b : Nat} {off : Int} {tgt : Nat} (hd : decode cc pc = .ok (.if_icmp .gt off, 3)) (ht : (pc : Int) + off = (tgt : Int)) (ha : a < 2 ^ 31) (hb : b < 2 ^ 31) (kt : b < a → Wd Pic g nL w k n tgt lv rest) (kf : a ≤ b → Wd Pic g nL w k n (pc + 3) lv rest) : Wd Pic g nL w k n pc lv (.int (nI b) :: .int (nI a) :: rest) := ro_icmp_gt F hd ht (fun z => kt ((nI_ltI hb ha).mp z)) (fun z => kf (Nat.le_of_not_lt fun q => z ((nI_ltI hb ha).mpr q)))
theorem ro_icmp_leN (F : Fx g cc nL own d mc ms K) {a b : Nat} {off : Int} {tgt : Nat} (hd : decode cc pc = .ok (.if_icmp .le off, 3)) (ht : (pc : Int) + off = (tgt : Int)) (ha : a < 2 ^ 31) (hb : b < 2 ^ 31) (kt : a ≤ b → Wd Pic g nL w k n tgt lv rest) (kf : b < a → Wd Pic g nL w k n (pc + 3) lv rest) : Wd Pic g nL w k n pc lv (.int (nI b) :: .int (nI a) :: rest) := ro_icmp_le F hd ht (fun z => kt ((nI_leI ha hb).mp z)) (fun z => kf (Nat.lt_of_not_le fun q => z ((nI_leI ha hb).mpr q)))
theorem ro_icmp_eqN (F : Fx g cc nL own d mc ms K) {a b : Nat} {off : Int} {tgt : Nat} (hd : decode cc pc = .ok (.if_icmp .eq off, 3)) (ht : (pc : Int) + off = (tgt : Int)) (ha : a < 2 ^ 31) (hb : b < 2 ^ 31) (kt : a = b → Wd Pic g nL w k n tgt lv rest) (kf : ¬ a = b → Wd Pic g nL w k n (pc + 3) lv rest) : Wd Pic g nL w k n pc lv (.int (nI b) :: .int (nI a) :: rest) := ro_icmp_eq F hd ht (fun z => kt ((nI_eq ha hb).mp z)) (fun z => kf (fun q => z ((nI_eq ha hb).mpr q)))
theorem ro_icmp_neN (F : Fx g cc nL own d mc ms K) {a b : Nat} {off : Int} {tgt : Nat} (hd : decode cc pc = .ok (.if_icmp .ne off, 3)) (ht : (pc : Int) + off = (tgt : Int)) (ha : a < 2 ^ 31) (hb : b < 2 ^ 31) (kt : ¬ a = b → Wd Pic g nL w k n tgt lv rest) (kf : a = b → Wd Pic g nL w k n (pc + 3) lv rest) : Wd Pic g nL w k n pc lv (.int (nI b) :: .int (nI a) :: rest) := ro_icmp_ne F hd ht (fun z => kt (fun q => z ((nI_eq ha hb).mpr q))) (fun z => kf ((nI_eq ha hb).mp z))
theorem nI_z {a : Nat} (ha : a < 2 ^ 31) : nI a = 0 ↔ a = 0 := by
  have h := nI_eq ha (show 0 < 2 ^ 31 by decide)
  rw [nI_0] at h
  exact h
theorem ro_if_eqN (F : Fx g cc nL own d mc ms K) {a : Nat} {off : Int} {tgt : Nat} (hd : decode cc pc = .ok (.ifCond .eq off, 3)) (ht : (pc : Int) + off = (tgt : Int)) (ha : a < 2 ^ 31) (kt : a = 0 → Wd Pic g nL w k n tgt lv rest) (kf : ¬ a = 0 → Wd Pic g nL w k n (pc + 3) lv rest) : Wd Pic g nL w k n pc lv (.int (nI a) :: rest) := ro_if_eq F hd ht (fun z => kt ((nI_z ha).mp z)) (fun z => kf (fun q => z ((nI_z ha).mpr q)))
theorem ro_if_neN (F : Fx g cc nL own d mc ms K) {a : Nat} {off : Int} {tgt : Nat} (hd : decode cc pc = .ok (.ifCond .ne off, 3)) (ht : (pc : Int) + off = (tgt : Int)) (ha : a < 2 ^ 31) (kt : ¬ a = 0 → Wd Pic g nL w k n tgt lv rest) (kf : a = 0 → Wd Pic g nL w k n (pc + 3) lv rest) : Wd Pic g nL w k n pc lv (.int (nI a) :: rest) := ro_if_ne F hd ht (fun z => kt (fun q => z ((nI_z ha).mpr q))) (fun z => kf ((nI_z ha).mp z))
theorem ro_if_leN (F : Fx g cc nL own d mc ms K) {a : Nat} {off : Int} {tgt : Nat} (hd : decode cc pc = .ok (.ifCond .le off, 3)) (ht : (pc : Int) + off = (tgt : Int)) (ha : a < 2 ^ 31) (kt : a = 0 → Wd Pic g nL w k n tgt lv rest) (kf : ¬ a = 0 → Wd Pic g nL w k n (pc + 3) lv rest) : Wd Pic g nL w k n pc lv (.int (nI a) :: rest) := ro_if_le F hd ht (fun z => kt (by
    have h : nI a ≤ nI 0 := z
    have := (nI_leI ha (by decide)).mp h
    omega)) (fun z => kf (fun q => z (by subst q; decide)))
theorem ro_if_gtN (F : Fx g cc nL own d mc ms K) {a : Nat} {off : Int} {tgt : Nat} (hd : decode cc pc = .ok (.ifCond .gt off, 3)) (ht : (pc : Int) + off = (tgt : Int)) (ha : a < 2 ^ 31) (kt : ¬ a = 0 → Wd Pic g nL w k n tgt lv rest) (kf : a = 0 → Wd Pic g nL w k n (pc + 3) lv rest) : Wd Pic g nL w k n pc lv (.int (nI a) :: rest) := ro_if_gt F hd ht (fun z => kt (fun q => by subst q; exact absurd z (by decide))) (fun z => kf (by
    rcases Nat.eq_zero_or_pos a with q | q
    · exact q
    · exact absurd ((nI_ltI (show 0 < 2 ^ 31 by decide) ha).mpr q) z))
theorem ro_if_eqB (F : Fx g cc nL own d mc ms K) {p : Prop} [Decidable p] {off : Int} {tgt : Nat} (hd : decode cc pc = .ok (.ifCond .eq off, 3)) (ht : (pc : Int) + off = (tgt : Int)) (kt : ¬ p → Wd Pic g nL w k n tgt lv rest) (kf : p → Wd Pic g nL w k n (pc + 3) lv rest) : Wd Pic g nL w k n pc lv (.int (b2 p) :: rest) := ro_if_eq F hd ht (fun z => kt (b2_0.mp z)) (fun z => kf (b2_n0.mp z))
theorem ro_if_neB (F : Fx g cc nL own d mc ms K) {p : Prop} [Decidable p] {off : Int} {tgt : Nat} (hd : decode cc pc = .ok (.ifCond .ne off, 3)) (ht : (pc : Int) + off = (tgt : Int)) (kt : p → Wd Pic g nL w k n tgt lv rest) (kf : ¬ p → Wd Pic g nL w k n (pc + 3) lv rest) : Wd Pic g nL w k n pc lv (.int (b2 p) :: rest) := ro_if_ne F hd ht (fun z => kt (b2_n0.mp z)) (fun z => kf (b2_0.mp z))
theorem ro_lcmp (F : Fx g cc nL own d mc ms K) {x y : Int64} (hd : decode cc pc = .ok (.lcmp, 1)) (kk : Wd Pic g nL w k n (pc + 1) lv (.int (lg_cmp x y) :: rest)) : Wd Pic g nL w k n pc lv (.long y :: .long x :: rest) := fun H locs ls hP hS hl => W.lcmp F.x F.b hd (kk H locs ls hP hS hl)
theorem ro_lif_eq (F : Fx g cc nL own d mc ms K) {x y : Int64} {off : Int} {tgt : Nat} (hd : decode cc pc = .ok (.ifCond .eq off, 3)) (ht : (pc : Int) + off = (tgt : Int)) (kt : x = y → Wd Pic g nL w k n tgt lv rest) (kf : ¬ x = y → Wd Pic g nL w k n (pc + 3) lv rest) : Wd Pic g nL w k n pc lv (.int (lg_cmp x y) :: rest) := ro_if_eq F hd ht (fun z => kt (lc_eq.mp z)) (fun z => kf (fun q => z (lc_eq.mpr q)))
theorem ro_lif_ne (F : Fx g cc nL own d mc ms K) {x y : Int64} {off : Int} {tgt : Nat} (hd : decode cc pc = .ok (.ifCond .ne off, 3)) (ht : (pc : Int) + off = (tgt : Int)) (kt : ¬ x = y → Wd Pic g nL w k n tgt lv rest) (kf : x = y → Wd Pic g nL w k n (pc + 3) lv rest) : Wd Pic g nL w k n pc lv (.int (lg_cmp x y) :: rest) := ro_if_ne F hd ht (fun z => kt (fun q => z (lc_eq.mpr q))) (fun z => kf (lc_eq.mp z))
theorem ro_lif_lt (F : Fx g cc nL own d mc ms K) {x y : Int64} {off : Int} {tgt : Nat} (hd : decode cc pc = .ok (.ifCond .lt off, 3)) (ht : (pc : Int) + off = (tgt : Int)) (kt : x < y → Wd Pic g nL w k n tgt lv rest) (kf : ¬ x < y → Wd Pic g nL w k n (pc + 3) lv rest) : Wd Pic g nL w k n pc lv (.int (lg_cmp x y) :: rest) := ro_if_lt F hd ht (fun z => kt (lc_lt.mp z)) (fun z => kf (fun q => z (lc_lt.mpr q)))
theorem ro_lif_ge (F : Fx g cc nL own d mc ms K) {x y : Int64} {off : Int} {tgt : Nat} (hd : decode cc pc = .ok (.ifCond .ge off, 3)) (ht : (pc : Int) + off = (tgt : Int)) (kt : y ≤ x → Wd Pic g nL w k n tgt lv rest) (kf : ¬ y ≤ x → Wd Pic g nL w k n (pc + 3) lv rest) : Wd Pic g nL w k n pc lv (.int (lg_cmp x y) :: rest) := ro_if_ge F hd ht (fun z => kt (lc_ge.mp z)) (fun z => kf (fun q => z (lc_ge.mpr q)))
theorem ro_lif_gt (F : Fx g cc nL own d mc ms K) {x y : Int64} {off : Int} {tgt : Nat} (hd : decode cc pc = .ok (.ifCond .gt off, 3)) (ht : (pc : Int) + off = (tgt : Int)) (kt : y < x → Wd Pic g nL w k n tgt lv rest) (kf : ¬ y < x → Wd Pic g nL w k n (pc + 3) lv rest) : Wd Pic g nL w k n pc lv (.int (lg_cmp x y) :: rest) := ro_if_gt F hd ht (fun z => kt (lc_gt.mp z)) (fun z => kf (fun q => z (lc_gt.mpr q)))
theorem ro_lif_le (F : Fx g cc nL own d mc ms K) {x y : Int64} {off : Int} {tgt : Nat} (hd : decode cc pc = .ok (.ifCond .le off, 3)) (ht : (pc : Int) + off = (tgt : Int)) (kt : x ≤ y → Wd Pic g nL w k n tgt lv rest) (kf : ¬ x ≤ y → Wd Pic g nL w k n (pc + 3) lv rest) : Wd Pic g nL w k n pc lv (.int (lg_cmp x y) :: rest) := ro_if_le F hd ht (fun z => kt (lc_le.mp z)) (fun z => kf (fun q => z (lc_le.mpr q)))
end RN
section MR
variable {x : Mx} {g : Gx} {cc : ByteArray} {nL : Nat} {d mc ms : Nat} {m : Mem} {k n pc : Nat} {lv : Lv} {rest : List Value}
theorem mo_gi (F : Fx g cc nL RX6 d mc ms (KM x)) (f : Nat) (hf : f < 40) (h0 : mk_len f = 0) {index : Nat} {v : Int32} (hlk : Cond.fieldLink RX6 index RX6 (TX6 f).2.1 (TX6 f).2.2.1 ∈ lw_all) (hT : (TX6 f).1 = RX6) (hd : decode cc pc = .ok (.getfield index, 3)) (hv : m f 0 = v)
    (kk : Wd (PicM x) g nL m k n (pc + 3) lv (.int v :: rest)) : Wd (PicM x) g nL m k n pc lv (.ref (mx_ad x 40) :: rest) := mo_get F f hf hlk hT (by rw [if_pos h0, hv]) hd kk
theorem mo_gr (F : Fx g cc nL RX6 d mc ms (KM x)) (f : Nat) (hf : f < 40) (h0 : mk_len f ≠ 0) {index : Nat} (hlk : Cond.fieldLink RX6 index RX6 (TX6 f).2.1 (TX6 f).2.2.1 ∈ lw_all) (hT : (TX6 f).1 = RX6) (hd : decode cc pc = .ok (.getfield index, 3))
    (kk : Wd (PicM x) g nL m k n (pc + 3) lv (.ref (mx_ad x f) :: rest)) : Wd (PicM x) g nL m k n pc lv (.ref (mx_ad x 40) :: rest) := mo_get F f hf hlk hT (if_neg h0) hd kk
theorem mo_ldN (F : Fx g cc nL RX6 d mc ms (KM x)) (f N : Nat) (hN : mk_len f = N) (h0 : 0 < N) (h2 : N < 2 ^ 31) (hb : mk_bool f = false) {j : Nat} (hj : j < N) {v : Int32} (hd : decode cc pc = .ok (.iaload, 1)) (hv : m f j = v)
    (kk : Wd (PicM x) g nL m k n (pc + 1) lv (.int v :: rest)) : Wd (PicM x) g nL m k n pc lv (.int (nI j) :: .ref (mx_ad x f) :: rest) := by
  subst hv
  subst hN
  refine mo_iald F f (by omega) hb (vp_in_nI hj h2) hd ?_
  rw [nI_clamp (Nat.lt_trans hj h2)]
  exact kk
theorem mo_ldZ (F : Fx g cc nL RX6 d mc ms (KM x)) (f N : Nat) (hN : mk_len f = N) (h0 : 0 < N) (h2 : N < 2 ^ 31) (hb : mk_bool f = true) {j : Nat} (hj : j < N) {v : Int32} (hd : decode cc pc = .ok (.baload, 1)) (hv : m f j = v)
    (kk : Wd (PicM x) g nL m k n (pc + 1) lv (.int v :: rest)) : Wd (PicM x) g nL m k n pc lv (.int (nI j) :: .ref (mx_ad x f) :: rest) := by
  subst hv
  subst hN
  refine mo_bald F f (by omega) hb (vp_in_nI hj h2) hd ?_
  rw [nI_clamp (Nat.lt_trans hj h2)]
  exact kk
theorem mo_stN (F : Fx g cc nL RX6 d mc ms (KM x)) (hgA : gx_A g = mx_A x) (f N : Nat) (hN : mk_len f = N) (h0 : 0 < N) (h2 : N < 2 ^ 31) (hb : mk_bool f = false) {j : Nat} (hj : j < N) {v : Int32} (hd : decode cc pc = .ok (.iastore, 1))
    (kk : Wd (PicM x) g nL (m2 m f j v) k n (pc + 1) lv rest) : Wd (PicM x) g nL m k n pc lv (.int v :: .int (nI j) :: .ref (mx_ad x f) :: rest) := by
  subst hN
  refine mo_iast F hgA f (by omega) hb (vp_in_nI hj h2) hd ?_
  rw [nI_clamp (Nat.lt_trans hj h2)]
  exact kk
theorem mo_stZ (F : Fx g cc nL RX6 d mc ms (KM x)) (hgA : gx_A g = mx_A x) (f N : Nat) (hN : mk_len f = N) (h0 : 0 < N) (h2 : N < 2 ^ 31) (hb : mk_bool f = true) {j : Nat} (hj : j < N) {v : Int32} (hz : vp_nar .boolean v = v) (hd : decode cc pc = .ok (.bastore, 1))
    (kk : Wd (PicM x) g nL (m2 m f j v) k n (pc + 1) lv rest) : Wd (PicM x) g nL m k n pc lv (.int v :: .int (nI j) :: .ref (mx_ad x f) :: rest) := by
  subst hN
  refine mo_bast F hgA f (by omega) hb (vp_in_nI hj h2) hd ?_
  rw [nI_clamp (Nat.lt_trans hj h2), hz]
  exact kk
/-- a call of an own method of the reference, with its answer known -/
theorem mo_cV {index : Nat} {y : MethodName} {bytes : ByteArray} {maxL d' N : Nat} {ret : Option FieldType} {As st0 : List Value} {r : Option Value} {m' : Mem} (F : Fx g cc nL RX6 d mc ms (KM x)) (hgA : gx_A g = mx_A x)
    (hM : Cn (gx_l g) y (ws_ y bytes maxL ret) d' 0 0 (.ref (mx_ad x 40) :: As) (PicM x) (KM x) (mx_A x) m (fun v w' => v = r ∧ w' = m'))
    (hG : GoodIn lw_all (wsV RX6 index RX6 y (ws_ y bytes maxL ret)))
    (hd : y.cls = RX6 ∧ y.cls ≠ "java/lang/invoke/MethodHandle" ∧ y.cls ≠ "java/lang/invoke/VarHandle" ∧ (parseMethodDescriptor y.desc).map (fun d => d.parameters.length) = some N)
    (hN : As.length = N) (hdd : d' + 1 ≤ d) (hml : maxL ≤ 21) (hc : k ≤ mc) (hs : n ≤ ms) (hst0 : st0 = As.reverse ++ .ref (mx_ad x 40) :: rest) (hst : (rest.map fun v => v.category).sum ≤ 8) (hdg : decode cc pc = .ok (.invokevirtual index, 3))
    (kk : Wd (PicM x) g nL m' k n (pc + 3) lv (r.toList ++ rest)) : Wd (PicM x) g nL m k n pc lv st0 := by
  subst hst0
  exact ca_V (KM_st _ x) F (fun q h => by rw [hgA]; exact h) hM hG (mo_recv F.k) hd hN hdd hml hc hs hst hdg (fun v w' h => by rw [h.1, h.2]; exact kk)
theorem mo_cS {index : Nat} {y : MethodName} {bytes : ByteArray} {maxL d' N : Nat} {ret : Option FieldType} {As st0 : List Value} {r : Option Value} {m' : Mem} (F : Fx g cc nL RX6 d mc ms (KM x)) (hgA : gx_A g = mx_A x)
    (hM : Cn (gx_l g) y (ws_ y bytes maxL ret) d' 0 0 As (PicM x) (KM x) (mx_A x) m (fun v w' => v = r ∧ w' = m'))
    (hG : GoodIn lw_all (va_wsS RX6 index y (ws_ y bytes maxL ret)))
    (hd : y.cls = RX6 ∧ y.cls ≠ "java/lang/invoke/MethodHandle" ∧ y.cls ≠ "java/lang/invoke/VarHandle" ∧ (parseMethodDescriptor y.desc).map (fun d => d.parameters.length) = some N)
    (hN : As.length = N) (hdd : d' + 1 ≤ d) (hml : maxL ≤ 21) (hc : k ≤ mc) (hs : n ≤ ms) (hst0 : st0 = As.reverse ++ rest) (hst : (rest.map fun v => v.category).sum ≤ 8) (hdg : decode cc pc = .ok (.invokestatic index, 3))
    (kk : Wd (PicM x) g nL m' k n (pc + 3) lv (r.toList ++ rest)) : Wd (PicM x) g nL m k n pc lv st0 := by
  subst hst0
  exact ca_S (KM_st _ x) F (fun q h => by rw [hgA]; exact h) hM hG hd.2 hN hdd hml hc hs hst hdg (fun v w' h => by rw [h.1, h.2]; exact kk)
end MR
