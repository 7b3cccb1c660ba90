/-! find()'s mirror doesn't see (nor touch) where a text stood and how often a list was changed -/
def jk (w m : Mem) : Mem := fun r j => if ((r = 1 ∨ r = 2) ∧ j = 3) ∨ ((r = 32 ∨ r = 42) ∧ j = 0) then w r j else m r j
theorem jk_rd {w m : Mem} {r j : Nat} (h : ¬ (((r = 1 ∨ r = 2) ∧ j = 3) ∨ ((r = 32 ∨ r = 42) ∧ j = 0))) : jk w m r j = m r j := if_neg h
theorem jk_in {w m : Mem} {r j : Nat} (h : ((r = 1 ∨ r = 2) ∧ j = 3) ∨ ((r = 32 ∨ r = 42) ∧ j = 0)) : jk w m r j = w r j := if_pos h
theorem jk_up {w m : Mem} {r j : Nat} {v : Int32} (h : ¬ (((r = 1 ∨ r = 2) ∧ j = 3) ∨ ((r = 32 ∨ r = 42) ∧ j = 0))) : m2 (jk w m) r j v = jk w (m2 m r j v) := by
  funext a b
  by_cases c : ((a = 1 ∨ a = 2) ∧ b = 3) ∨ ((a = 32 ∨ a = 42) ∧ b = 0)
  · rw [jk_in c]
    have hne : ¬ (a = r ∧ b = j) := fun z => h (by rw [← z.1, ← z.2]; exact c)
    have e : m2 (jk w m) r j v a b = jk w m a b := by simp [m2, hne]
    rw [e, jk_in c]
  · rw [jk_rd c]
    unfold m2
    split
    · rfl
    · exact jk_rd c
theorem jk_it {w : Mem} {f f' : Nat → Mem → Mem} {x : Mem} (h : ∀ i b, f' i (jk w b) = jk w (f i b)) : ∀ n, it f' (jk w x) n = jk w (it f x n)
  | 0 => by rw [it_zero, it_zero]
  | n + 1 => by rw [it_succ, it_succ, jk_it h n, h]
theorem jk_ite {w a b : Mem} {c : Prop} [Decidable c] : (if c then jk w a else jk w b) = jk w (if c then a else b) := by split <;> rfl
theorem jk_isWar {w m : Mem} (d nw : Nat) : rX0_isWar d nw (jk w m) = rX0_isWar d nw m := by
  have e : lX0_isWar_4 d (jk w m) = lX0_isWar_4 d m := by
    funext i b
    unfold lX0_isWar_4
    rw [jk_rd (by omega), jk_rd (by omega)]
  unfold rX0_isWar
  rw [e]
theorem jk_mounts {w m : Mem} (d k : Nat) (wy : Nat → Nat) : fX0_mounts d k wy (jk w m) = jk w (fX0_mounts d k wy m) := by
  unfold fX0_mounts
  simp (disch := omega) only [jk_rd, jk_up]
theorem jk_hearsR {w m : Mem} (d k p er : Nat) : rX0_hears d k p er (jk w m) = rX0_hears d k p er m := by
  unfold rX0_hears
  simp (disch := omega) only [jk_rd, jk_up]
theorem jk_hears {w m : Mem} (d k p er : Nat) : fX0_hears d k p er (jk w m) = jk w (fX0_hears d k p er m) := by
  unfold fX0_hears
  simp (disch := omega) only [jk_rd, jk_up]
theorem jk_allOwed {w m : Mem} (d ns : Nat) : rX0_allOwed d ns (jk w m) = rX0_allOwed d ns m := by
  have e : lX0_allOwed_4 d (jk w m) = lX0_allOwed_4 d m := by
    funext i b
    unfold lX0_allOwed_4
    rw [jk_rd (by omega)]
  unfold rX0_allOwed
  rw [e]
theorem jk_isCalled {w m : Mem} (d k nc : Nat) : rX0_isCalled d k nc (jk w m) = rX0_isCalled d k nc m := by
  have e : lX0_isCalled_59 d k (jk w m) = lX0_isCalled_59 d k m := by
    funext i b
    unfold lX0_isCalled_59
    rw [jk_rd (by omega), jk_rd (by omega), jk_rd (by omega)]
  unfold rX0_isCalled
  rw [e]
  simp (disch := omega) only [jk_rd]
theorem jk_hearsAll {w m : Mem} (d k np : Nat) {eB : Nat → Nat} (hE : ∀ k, eB k ≠ 1 ∧ eB k ≠ 2 ∧ eB k ≠ 32 ∧ eB k ≠ 42) : fX0_hearsAll d k np eB (jk w m) = jk w (fX0_hearsAll d k np eB m) := by
  have e1 : ∀ i b, lX0_hearsAll_21 d k eB (jk w m) i (jk w b) = jk w (lX0_hearsAll_21 d k eB m i b) := by
    intro i b
    have hz := hE i
    unfold lX0_hearsAll_21
    rw [jk_rd (by omega), jk_rd (by omega), jk_hears, jk_ite]
  have e2 : ∀ i b, lX0_hearsAll_79 d k eB (jk w m) i (jk w b) = jk w (lX0_hearsAll_79 d k eB m i b) := by
    intro i b
    have hz := hE i
    unfold lX0_hearsAll_79
    rw [jk_rd (m := m) (by omega), jk_rd (m := m) (by omega), jk_hearsR, jk_hears]
    simp (disch := omega) only [jk_rd, jk_up, jk_ite]
  unfold fX0_hearsAll
  rw [jk_it e1, jk_it e2]
theorem jk_find {w m : Mem} (ns np nc nw : Nat) {eB : Nat → Nat} (wy : Nat → Nat) (hE : ∀ k, eB k ≠ 1 ∧ eB k ≠ 2 ∧ eB k ≠ 32 ∧ eB k ≠ 42) : fX0_find ns np nc nw eB wy (jk w m) = jk w (fX0_find ns np nc nw eB wy m) := by
  have e1 : ∀ i37 i b, lX0_find_45 nw eB (jk w m) i37 i (jk w b) = jk w (lX0_find_45 nw eB m i37 i b) := by
    intro i37 i b
    have hz := hE i
    unfold lX0_find_45
    rw [jk_rd (m := m) (by omega), jk_isWar, jk_up (by omega)]
  have e2 : ∀ i37 i b, lX0_find_109 wy i37 i (jk w b) = jk w (lX0_find_109 wy i37 i b) := fun i37 i b => jk_mounts i37 i wy
  have e3 : ∀ i37 b37 i b, lX0_find_137 np nc eB wy i37 (jk w b37) i (jk w b) = jk w (lX0_find_137 np nc eB wy i37 b37 i b) := by
    intro i37 b37 i b
    unfold lX0_find_137
    rw [jk_isCalled, jk_rd (by omega), jk_hearsAll _ _ _ hE, jk_ite]
  have e4 : ∀ i b, lX0_find_37 ns np nc nw eB wy (jk w m) i (jk w b) = jk w (lX0_find_37 ns np nc nw eB wy m i b) := by
    intro i b
    unfold lX0_find_37
    rw [jk_it (e1 i), jk_it (e2 i), jk_it (e3 i b), jk_allOwed]
    simp (disch := omega) only [jk_rd, jk_up, jk_ite]
  unfold fX0_find
  simp (disch := omega) only [jk_up]
  exact jk_it e4 20
