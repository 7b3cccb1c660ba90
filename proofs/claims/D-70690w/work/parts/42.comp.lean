/-! THE CLASS'S WORLD: its classes, the layout of what its constructor makes, what is known of the tables -/
def clT0 : u_T := fun _ => ("", "", "", false)
/-- 0 InterestTaken, 1 Savers, 2 Board, 3 ArrayList, 4 Partner, 5 Saver, 6 Sheet, 7 Torn, 8 Way, 9 Keeps, 10 Ear, 11 Yawner, 12 String -/
def clAll : List vw_C := [(RX0, TX0, 25), (RX2, TX2, 7), (RX3, TX3, 7), (RJ2, TJ2, 3), (RX4, TX4, 2), (RX8, TX8, 3), (RX5, TX5, 1), (RX7, TX7, 7), (RX11, clT0, 0), (RX10, clT0, 0), (RX9, clT0, 0), (RX12, clT0, 0), (RJ5, TJ5, 2)]
/-- rows of the cell b: the places b + 64, b + 128 .. -/
def rw_ (b n : Nat) : Nat → Option Nat := fun j => if j < n then some (b + 64 * (j + 1)) else none
/-- what stays where it is for good: places by number; rows of a grid at place b lie at b + 64 * (i + 1); constants leave 60 or more by 64 (60 WAYS, 124 Way, 188 Keeps, 61 CARES, 62 YAWNS, 63 ArrayList's empty array) -/
def fixL (p : Nat) : Option Lay :=
  if p = 0 then some (.inl (0, [none, some (some 1), some (some 2), some (some 3), some (some 4), some (some 5), some (some 6), some (some 7), some (some 8), some (some 9), none, some (some 11), none, none, none, none, some (some 16), none, some (some 18), some (some 19), some (some 20), some (some 21), some (some 22), none, some (some 24)]))
  else if p = 1 then some (.inl (1, [some (some 31), none, none, none, none, none, some (some 32)]))
  else if p = 2 then some (.inl (2, [some (some 41), none, none, none, none, none, some (some 42)]))
  else if p = 3 then some (.inr (0, 2, none))
  else if p = 6 then some (.inr (5, 20, some (rw_ 6 20)))
  else if p = 7 then some (.inr (5, 20, some (rw_ 7 20)))
  else if p = 8 then some (.inr (5, 20, some (rw_ 8 20)))
  else if p = 9 then some (.inr (5, 20, some (rw_ 9 20)))
  else if p = 11 then some (.inr (0, 2, none))
  else if p = 16 then some (.inr (0, 20, none))
  else if p = 18 then some (.inl (4, [none, none]))
  else if p = 19 then some (.inr (0, 8, none))
  else if p = 20 then some (.inr (1, 8, none))
  else if p = 22 then some (.inr (5, 10, some (rw_ 22 10)))
  else if p = 24 then some (.inr (6, 4, some (rw_ 24 4)))
  else if p = 31 then some (.inr (2, 31, none))
  else if p = 41 then some (.inr (2, 23, none))
  else if p = 60 then some (.inr (7, 2, some (rw_ 60 2)))
  else if p = 124 then some (.inl (8, []))
  else if p = 188 then some (.inl (9, []))
  else if p = 61 then some (.inl (10, []))
  else if p = 62 then some (.inl (11, []))
  else if p = 63 then some (.inr (4, 0, some (fun _ => none)))
  else if (p % 64 = 6 ∨ p % 64 = 7 ∨ p % 64 = 8) ∧ p < 1344 then some (.inr (0, 8, none))
  else if p % 64 = 9 ∧ p < 1344 then some (.inr (0, 9, none))
  else if p % 64 = 22 ∧ p < 704 then some (.inr (0, 20, none))
  else none
theorem fix_g {b d : Nat} (hb : b = 6 ∨ b = 7 ∨ b = 8) (hd : d < 20) : fixL (b + 64 * (d + 1)) = some (.inr (0, 8, none)) := by
  unfold fixL
  repeat rw [if_neg (by omega)]
  rw [if_pos (by omega)]
theorem fix_6 {d : Nat} (hd : d < 20) : fixL (6 + 64 * (d + 1)) = some (.inr (0, 8, none)) := fix_g (by decide) hd
theorem fix_7 {d : Nat} (hd : d < 20) : fixL (7 + 64 * (d + 1)) = some (.inr (0, 8, none)) := fix_g (by decide) hd
theorem fix_8 {d : Nat} (hd : d < 20) : fixL (8 + 64 * (d + 1)) = some (.inr (0, 8, none)) := fix_g (by decide) hd
theorem fix_9 {d : Nat} (hd : d < 20) : fixL (9 + 64 * (d + 1)) = some (.inr (0, 9, none)) := by
  unfold fixL
  repeat rw [if_neg (by omega)]
  rw [if_pos (by omega)]
theorem fix_22 {d : Nat} (hd : d < 10) : fixL (22 + 64 * (d + 1)) = some (.inr (0, 20, none)) := by
  unfold fixL
  repeat rw [if_neg (by omega)]
  rw [if_pos (by omega)]
theorem rw_at {b n j : Nat} (h : j < n) : rw_ b n j = some (b + 64 * (j + 1)) := if_pos h
def FixD (ds : Nat → Option Lay) : Prop := ∀ p L, fixL p = some L → ds p = some L
/-- the list at place a holds n elements, at the places e j; its array is the place q of length N -/
def LsD (ds : Nat → Option Lay) (a q N n : Nat) (e : Nat → Nat) : Prop :=
  ds a = some (.inl (3, [none, some (some q), none])) ∧ ds q = some (.inr (4, N, some (fun j => if j < n then some (e j) else none))) ∧ n ≤ N ∧ N ≤ 10
/-- words of nest mates that the class's code uses -/
def NwC (U : State) : Prop :=
  va_Nw (.fieldLinkNest RX0 218 RX8 "way" "LInterestTaken$Way;" RX0) U ∧ va_Nw (.fieldLinkNest RX0 227 RX8 "sum" "I" RX0) U ∧ va_Nw (.fieldLinkNest RX0 238 RX8 "topic" "I" RX0) U ∧ va_Nw (.fieldLinkNest RX0 241 RX4 "topic" "I" RX0) U ∧ va_Nw (.fieldLinkNest RX0 255 RX4 "sits" "I" RX0) U ∧ va_Nw (.fieldLinkNest RX0 187 RX5 "row" "Ljava/lang/Object;" RX0) U ∧ va_Nw (.fieldLinkNest RX1 75 RX7 "place" "I" RX0) U ∧ va_Nw (.fieldLinkNest RX2 15 RX0 "WAYS" "[LInterestTaken$Way;" RX0) U
theorem NwC_st {u U : State} (hW : u.WarmedH U.vm) (h : NwC u) : NwC U := by
  obtain ⟨h1, h2, h3, h4, h5, h6, h7, h8⟩ := h
  exact ⟨h1.warmF hW, h2.warmF hW, h3.warmF hW, h4.warmF hW, h5.warmF hW, h6.warmF hW, h7.warmF hW, h8.warmF hW⟩
/-- the class's statics, read only -/
def StC (x : Hx) (U : State) (H : Heap) : Prop :=
  va_Z RX0 "WAYS" "[LInterestTaken$Way;" (.ref (hx_sa x 60)) (hx_A x) U H ∧ va_Z RX0 "CARES" "LInterestTaken$Ear;" (.ref (hx_sa x 61)) (hx_A x) U H ∧ va_Z RX0 "YAWNS" "LInterestTaken$Ear;" (.ref (hx_sa x 62)) (hx_A x) U H ∧ va_Z RJ2 "DEFAULTCAPACITY_EMPTY_ELEMENTDATA" "[Ljava/lang/Object;" (.ref (hx_sa x 63)) (hx_A x) U H
/-- words that don't ride in the lists: a method that is declared, private methods, what may and what may not be cast -/
def kx_d : List MethodName := [⟨"InterestTaken$Text", "part", "()Ljava/lang/Object;"⟩]
def kx_p : List MethodName := [⟨"InterestTaken$Text", "next", "()V"⟩, ⟨"InterestTaken$Text", "reads", "()I"⟩]
def kx_c : List (String × String) := [("InterestTaken$Saver", "java/lang/Object"), ("InterestTaken$Partner", "java/lang/Object"), ("[I", "java/lang/Object"), ("InterestTaken$Torn", "InterestTaken$Torn"), ("java/lang/ArrayIndexOutOfBoundsException", "java/lang/ArrayIndexOutOfBoundsException"), ("java/lang/ArrayIndexOutOfBoundsException", "java/lang/IndexOutOfBoundsException"), ("java/lang/ClassCastException", "java/lang/ClassCastException"), ("java/lang/NegativeArraySizeException", "java/lang/NegativeArraySizeException"), ("[B", "java/lang/Object"), ("[S", "java/lang/Object"), ("InterestTaken$Sheet", "java/lang/Object")]
def kx_n : List (String × String) := [("[B", "[S"), ("[S", "[B"), ("[I", "[B"), ("[I", "[S"), ("[B", "[I"), ("[S", "[I"), ("java/lang/ArrayIndexOutOfBoundsException", "java/lang/ClassCastException")]
def kx_len : List Nat := [10, 4, 1, 2]
def kx_byt : List (List Int32) := [[48, 49, 50, 51, 52, 53, 54, 55, 56, 57], [97, 98, 99, 100], [59], [100, 107]]
/-- String constants, the JDK's statics, words -/
def KX (x : Hx) (U : State) : Prop :=
  (vk_R RX1 47 "0123456789" (hx_sa x 64000) U ∧ vk_R RX1 53 "abcd" (hx_sa x 64001) U ∧ vk_R RX1 73 ";" (hx_sa x 64002) U ∧ vk_R RX2 19 "dk" (hx_sa x 64003) U ∧ vk_S 4 kx_len kx_byt (fun i => hx_sa x (64000 + i)) (fun i => hx_sa x (65000 + i)) (hx_A x) U U.heap) ∧
  (va_Z RJ5 "COMPACT_STRINGS" "Z" (.int 1) (hx_A x) U U.heap ∧ (∃ r : Option Nat, va_Z RJ3 "UNASSIGNED_STACK" "[Ljava/lang/StackTraceElement;" (va_rf r) (hx_A x) U U.heap) ∧ ∃ r : Option Nat, va_Z RJ3 "SUPPRESSED_SENTINEL" "Ljava/util/List;" (va_rf r) (hx_A x) U U.heap) ∧
  ((∀ y ∈ kx_d, va_Nw (.declares y) U) ∧ (∀ y ∈ kx_p, U.PrivateAt y) ∧ (∀ q ∈ kx_c, va_Nw (.castable q.1 q.2) U) ∧ (∀ q ∈ kx_n, va_Nc q.1 q.2 U) ∧ va_AO "java/lang/Object" U ∧ va_AO "InterestTaken$Sheet" U) ∧ modulesRight_1 U = true
theorem priv_st {u U : State} {y : MethodName} (hW : u.WarmedH U.vm) (h : u.PrivateAt y) : U.PrivateAt y := by
  intro mk meth hn hm
  have h1 : (u.setVm U.vm).methodNamed? y = U.methodNamed? y := rfl
  rw [← h1, State.methodNamed?_setVm hW.alike] at hn
  rw [hW.alike.method?] at hm
  exact h mk meth hn hm
theorem KX_st {u U : State} {x : Hx} (hW : u.WarmedH U.vm) (hq : ∀ q : Nat, q < u.heap.size → ¬ hx_A x q → U.heap[q]? = u.heap[q]?) (h : KX x u) : KX x U := by
  obtain ⟨⟨a1, a2, a3, a4, a5⟩, ⟨b1, ⟨r1, b2⟩, ⟨r2, b3⟩⟩, ⟨c1, c2, c3, c4, c5, c6⟩, d1⟩ := h
  refine ⟨⟨a1.warm hW, a2.warm hW, a3.warm hW, a4.warm hW, (a5.moved hW.alike).kept hq⟩, ⟨(b1.moved hW.alike).kept hq, ⟨r1, (b2.moved hW.alike).kept hq⟩, ⟨r2, (b3.moved hW.alike).kept hq⟩⟩, ⟨fun y hy => (c1 y hy).warmD hW, fun y hy => priv_st hW (c2 y hy), fun q hq => (c3 q hq).warmC hW, fun q hq => (c4 q hq).moved hW.alike, c5.moved hW.alike, c6.moved hW.alike⟩, ?_⟩
  unfold modulesRight_1 at d1 ⊢
  rw [hW.alike.1]
  exact d1
def KC (x : Hx) (U : State) : Prop := KH0 x U ∧ hx_cl x = clAll ∧ NwC U ∧ StC x U U.heap ∧ KX x U
theorem KC_st (x : Hx) : Kst (hx_A x) (KC x) := fun u U hW hq hk => ⟨KH0_st _ x u U hW hq hk.1, hk.2.1, NwC_st hW hk.2.2.1, by
  obtain ⟨h1, h2, h3, h4⟩ := hk.2.2.2.1
  exact ⟨(h1.moved hW.alike).kept hq, (h2.moved hW.alike).kept hq, (h3.moved hW.alike).kept hq, (h4.moved hW.alike).kept hq⟩, KX_st hW hq hk.2.2.2.2⟩
theorem KC.c {x : Hx} {U : State} (h : KC x U) {i : Nat} {q : vw_C} (hq : clAll[i]? = some q) : (hx_cl x)[i]? = some q := by rw [h.2.1]; exact hq
