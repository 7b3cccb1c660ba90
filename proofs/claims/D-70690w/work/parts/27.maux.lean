/-! numbers for the reference: powers of two, single bits, remainders -/
theorem ro_ldcw {α : Type} {Pic : α → Heap → Prop} {g : Gx} {cc : ByteArray} {nL : Nat} {own : String} {d mc ms : Nat} {K : State → Prop} {w : α} {k n pc : Nat} {lv : Lv} {rest : List Value} (F : Fx g cc nL own d mc ms K) {index : Nat} {v : Int32} (hc : Cond.constant own index v ∈ lw_all) (hd : decode cc pc = .ok (.ldc_w index, 3)) (kk : Wd Pic g nL w k n (pc + 3) lv (.int v :: rest)) : Wd Pic g nL w k n pc lv rest := fun H locs ls hP hS hl => lv_ldcw F.x F.b F.own (F.ts _ hc) hd (kk H locs ls hP hS hl)
theorem ro_tableIn {α : Type} {Pic : α → Heap → Prop} {g : Gx} {cc : ByteArray} {nL : Nat} {own : String} {d mc ms : Nat} {K : State → Prop} {w : α} {k n pc : Nat} {lv : Lv} {rest : List Value} (F : Fx g cc nL own d mc ms K) {dflt lo hi : Int} {offs : Array Int} {len : Nat} {x : Int32} {off : Int} {tgt : Nat} (hd : decode cc pc = .ok (.tableswitch dflt lo hi offs, len)) (h1 : ¬ x.toInt < lo) (h2 : ¬ hi < x.toInt) (ho : offs[(x.toInt - lo).toNat]? = some off) (ht : (pc : Int) + off = (tgt : Int)) (kk : Wd Pic g nL w k n tgt lv rest) : Wd Pic g nL w k n pc lv (.int x :: rest) := fun H locs ls hP hS hl => lv_tableIn F.x F.b hd h1 h2 ho ht (kk H locs ls hP hS hl)
theorem ro_tableOut {α : Type} {Pic : α → Heap → Prop} {g : Gx} {cc : ByteArray} {nL : Nat} {own : String} {d mc ms : Nat} {K : State → Prop} {w : α} {k n pc : Nat} {lv : Lv} {rest : List Value} (F : Fx g cc nL own d mc ms K) {dflt lo hi : Int} {offs : Array Int} {len : Nat} {x : Int32} {tgt : Nat} (hd : decode cc pc = .ok (.tableswitch dflt lo hi offs, len)) (h : x.toInt < lo ∨ hi < x.toInt) (ht : (pc : Int) + dflt = (tgt : Int)) (kk : Wd Pic g nL w k n tgt lv rest) : Wd Pic g nL w k n pc lv (.int x :: rest) := fun H locs ls hP hS hl => lv_tableOut F.x F.b hd h ht (kk H locs ls hP hS hl)
theorem shl1_all : ∀ n, n < 10 → nI 1 <<< (nI n &&& 31) = nI (2 ^ n) := by decide +kernel
theorem shl1_pow {n : Nat} (h : n ≤ 8) : nI 1 <<< (nI n &&& 31) = nI (2 ^ n) := shl1_all n (by omega)
theorem pow_all : ∀ n, n < 9 → 1 ≤ 2 ^ n ∧ 2 ^ n ≤ 256 := by decide +kernel
theorem pow_le {n : Nat} (h : n ≤ 8) : 1 ≤ 2 ^ n ∧ 2 ^ n ≤ 256 := pow_all n (by omega)
theorem shl1_sub {n : Nat} (h : n ≤ 8) : nI 1 <<< (nI n &&& 31) - nI 1 = nI (2 ^ n - 1) := by rw [shl1_pow h, pk_sub (pow_le h).1]
theorem clr_all : ∀ s, s < 256 → ∀ p, p < 9 → ((nI s >>> (nI p &&& 31)) &&& nI 1) = nI 1 → nI s &&& ((nI 1 <<< (nI p &&& 31)) ^^^ (-1)) = nI (s - 2 ^ p) := by decide +kernel
theorem clr_bit {s p : Nat} (hs : s < 256) (hp : p < 9) (h : ((nI s >>> (nI p &&& 31)) &&& nI 1) = nI 1) : nI s &&& ((nI 1 <<< (nI p &&& 31)) ^^^ (-1)) = nI (s - 2 ^ p) := clr_all s hs p hp h
theorem ushr16_nat (z : Int32) : ∃ j, j < 65536 ∧ (z.toUInt32 >>> ((nI 16).toUInt32 &&& Int32.toUInt32 31)).toInt32 = nI j := by
  have h := pk_ushr z (nI 16) 16 (by decide)
  refine ⟨z.toBitVec.toNat / 2 ^ 16, ?_, ?_⟩
  · have := z.toBitVec.isLt
    omega
  · have h2 : z.toBitVec.toNat / 2 ^ 16 < 2 ^ 32 := by have := z.toBitVec.isLt; omega
    have h3 := pk_tn h2
    apply Int32.toBitVec_inj.mp
    apply BitVec.eq_of_toNat_eq
    rw [h, h3]
theorem ush_rem {z : Int32} {n : Nat} (hn : 0 < n) (h2 : n < 2 ^ 31) {X : Int32} (hX : X = (z.toUInt32 >>> ((nI 16).toUInt32 &&& Int32.toUInt32 31)).toInt32) : X - X / nI n * nI n = nI (X.toNatClampNeg % n) ∧ X.toNatClampNeg % n < n := by
  obtain ⟨j, hj, e⟩ := ushr16_nat z
  rw [e] at hX
  subst hX
  rw [nI_clamp (by omega), pk_rem (by omega) hn h2]
  exact ⟨rfl, Nat.mod_lt _ hn⟩
theorem lng_nat {i n z : Nat} (hi : i < 2 ^ 31) (hn : n < 2 ^ 31) (hz : z < 2 ^ 31) : ((nI z).toInt64 < (nI i).toInt64 + (nI n).toInt64) ↔ z < i + n := by
  rw [nI_l hi, nI_l hn, nI_l hz, lN_add]
  exact pk_lLT (by omega) (by omega)
theorem lng_natLe {i n z : Nat} (hi : i < 2 ^ 31) (hn : n < 2 ^ 31) (hz : z < 2 ^ 31) : ((nI i).toInt64 + (nI n).toInt64 ≤ (nI z).toInt64) ↔ i + n ≤ z := by
  rw [nI_l hi, nI_l hn, nI_l hz, lN_add]
  exact pk_lLE (by omega) (by omega)
