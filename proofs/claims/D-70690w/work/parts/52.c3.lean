noncomputable def lX0_find_45 (nw : Nat) (eB : Nat → Nat) (m : Mem) (i37 : Nat) (i45 : Nat) (b45 : Mem) : Mem := (m2 b45 (9 + 64 * (i37 + 1)) i45 (((nI 10) * (m (eB i45) 0)) / (nI (if (rX0_isWar i37 nw b45) = 0 then 1 else 2))))
theorem fr_lX0_find_45 (nw : Nat) (eB : Nat → Nat) (m : Mem) (i37 : Nat) (i45 : Nat) (b45 : Mem) (f : Nat) (h9 : f % 64 ≠ 9) : lX0_find_45 nw eB m i37 i45 b45 f = b45 f := (m2_ff _ _ (by omega)).trans (rfl)
theorem fi_lX0_find_45 (nw : Nat) (eB : Nat → Nat) (m : Mem) (i37 : Nat) (b45 : Mem) (n_ : Nat) (f : Nat) (h9 : f % 64 ≠ 9) : (it (lX0_find_45 nw eB m i37) b45 n_) f = b45 f := it_fr (fun i_ b_ => fr_lX0_find_45 nw eB m i37 i_ b_ f h9) n_
noncomputable def lX0_find_109 (wy : Nat → Nat) (i37 : Nat) (i109 : Nat) (b109 : Mem) : Mem := (fX0_mounts i37 i109 wy b109)
theorem fr_lX0_find_109 (wy : Nat → Nat) (i37 : Nat) (i109 : Nat) (b109 : Mem) (f : Nat) (h6 : f % 64 ≠ 6) (h7 : f % 64 ≠ 7) (h8 : f % 64 ≠ 8) : lX0_find_109 wy i37 i109 b109 f = b109 f := (fr_fX0_mounts i37 i109 wy b109 f h6 h7 h8).trans (rfl)
theorem fi_lX0_find_109 (wy : Nat → Nat) (i37 : Nat) (b109 : Mem) (n_ : Nat) (f : Nat) (h6 : f % 64 ≠ 6) (h7 : f % 64 ≠ 7) (h8 : f % 64 ≠ 8) : (it (lX0_find_109 wy i37) b109 n_) f = b109 f := it_fr (fun i_ b_ => fr_lX0_find_109 wy i37 i_ b_ f h6 h7 h8) n_
noncomputable def lX0_find_137 (np : Nat) (nc : Nat) (eB : Nat → Nat) (wy : Nat → Nat) (i37 : Nat) (b37 : Mem) (i137 : Nat) (b137 : Mem) : Mem := (if wy i137 = 124 ∨ (¬ ((rX0_isCalled i37 i137 nc b137) = 0) ∨ (¬ ((b37 0 10) = (-1)))) then (fX0_hearsAll i37 i137 np eB b137) else b137)
theorem fr_lX0_find_137 (np : Nat) (nc : Nat) (eB : Nat → Nat) (wy : Nat → Nat) (i37 : Nat) (b37 : Mem) (i137 : Nat) (b137 : Mem) (f : Nat) (h6 : f % 64 ≠ 6) (h7 : f % 64 ≠ 7) (h8 : f % 64 ≠ 8) (h9 : f % 64 ≠ 9) (h11 : f % 64 ≠ 11) : lX0_find_137 np nc eB wy i37 b37 i137 b137 f = b137 f := ite_fr ((fr_fX0_hearsAll i37 i137 np eB b137 f h6 h7 h8 h9 h11).trans (rfl)) (rfl)
theorem fi_lX0_find_137 (np : Nat) (nc : Nat) (eB : Nat → Nat) (wy : Nat → Nat) (i37 : Nat) (b37 : Mem) (b137 : Mem) (n_ : Nat) (f : Nat) (h6 : f % 64 ≠ 6) (h7 : f % 64 ≠ 7) (h8 : f % 64 ≠ 8) (h9 : f % 64 ≠ 9) (h11 : f % 64 ≠ 11) : (it (lX0_find_137 np nc eB wy i37 b37) b137 n_) f = b137 f := it_fr (fun i_ b_ => fr_lX0_find_137 np nc eB wy i37 b37 i_ b_ f h6 h7 h8 h9 h11) n_
noncomputable def lX0_find_37 (ns : Nat) (np : Nat) (nc : Nat) (nw : Nat) (eB : Nat → Nat) (wy : Nat → Nat) (m : Mem) (i37 : Nat) (b37 : Mem) : Mem := (if (b37 0 10) = (-1) then (if 20 ≤ (i37 + 1) then (it (lX0_find_137 np nc eB wy i37 b37) (it (lX0_find_109 wy i37) (it (lX0_find_45 nw eB m i37) b37 np) ns) ns) else (if (rX0_allOwed i37 ns (it (lX0_find_137 np nc eB wy i37 b37) (it (lX0_find_109 wy i37) (it (lX0_find_45 nw eB m i37) b37 np) ns) ns)) ≤ (m 3 1) then (it (lX0_find_137 np nc eB wy i37 b37) (it (lX0_find_109 wy i37) (it (lX0_find_45 nw eB m i37) b37 np) ns) ns) else (m2 (it (lX0_find_137 np nc eB wy i37 b37) (it (lX0_find_109 wy i37) (it (lX0_find_45 nw eB m i37) b37 np) ns) ns) 0 10 (nI (i37 + 1))))) else (it (lX0_find_137 np nc eB wy i37 b37) (it (lX0_find_109 wy i37) (it (lX0_find_45 nw eB m i37) b37 np) ns) ns))
theorem fr_lX0_find_37 (ns : Nat) (np : Nat) (nc : Nat) (nw : Nat) (eB : Nat → Nat) (wy : Nat → Nat) (m : Mem) (i37 : Nat) (b37 : Mem) (f : Nat) (h0 : f % 64 ≠ 0) (h6 : f % 64 ≠ 6) (h7 : f % 64 ≠ 7) (h8 : f % 64 ≠ 8) (h9 : f % 64 ≠ 9) (h11 : f % 64 ≠ 11) : lX0_find_37 ns np nc nw eB wy m i37 b37 f = b37 f := ite_fr (ite_fr ((fi_lX0_find_137 np nc eB wy i37 b37 (it (lX0_find_109 wy i37) (it (lX0_find_45 nw eB m i37) b37 np) ns) ns f h6 h7 h8 h9 h11).trans ((fi_lX0_find_109 wy i37 (it (lX0_find_45 nw eB m i37) b37 np) ns f h6 h7 h8).trans ((fi_lX0_find_45 nw eB m i37 b37 np f h9).trans (rfl)))) (ite_fr ((fi_lX0_find_137 np nc eB wy i37 b37 (it (lX0_find_109 wy i37) (it (lX0_find_45 nw eB m i37) b37 np) ns) ns f h6 h7 h8 h9 h11).trans ((fi_lX0_find_109 wy i37 (it (lX0_find_45 nw eB m i37) b37 np) ns f h6 h7 h8).trans ((fi_lX0_find_45 nw eB m i37 b37 np f h9).trans (rfl)))) ((m2_ff _ _ (by omega)).trans ((fi_lX0_find_137 np nc eB wy i37 b37 (it (lX0_find_109 wy i37) (it (lX0_find_45 nw eB m i37) b37 np) ns) ns f h6 h7 h8 h9 h11).trans ((fi_lX0_find_109 wy i37 (it (lX0_find_45 nw eB m i37) b37 np) ns f h6 h7 h8).trans ((fi_lX0_find_45 nw eB m i37 b37 np f h9).trans (rfl))))))) ((fi_lX0_find_137 np nc eB wy i37 b37 (it (lX0_find_109 wy i37) (it (lX0_find_45 nw eB m i37) b37 np) ns) ns f h6 h7 h8 h9 h11).trans ((fi_lX0_find_109 wy i37 (it (lX0_find_45 nw eB m i37) b37 np) ns f h6 h7 h8).trans ((fi_lX0_find_45 nw eB m i37 b37 np f h9).trans (rfl))))
theorem fi_lX0_find_37 (ns : Nat) (np : Nat) (nc : Nat) (nw : Nat) (eB : Nat → Nat) (wy : Nat → Nat) (m : Mem) (b37 : Mem) (n_ : Nat) (f : Nat) (h0 : f % 64 ≠ 0) (h6 : f % 64 ≠ 6) (h7 : f % 64 ≠ 7) (h8 : f % 64 ≠ 8) (h9 : f % 64 ≠ 9) (h11 : f % 64 ≠ 11) : (it (lX0_find_37 ns np nc nw eB wy m) b37 n_) f = b37 f := it_fr (fun i_ b_ => fr_lX0_find_37 ns np nc nw eB wy m i_ b_ f h0 h6 h7 h8 h9 h11) n_
noncomputable def fX0_find (ns : Nat) (np : Nat) (nc : Nat) (nw : Nat) (eB : Nat → Nat) (wy : Nat → Nat) (m : Mem) : Mem := (it (lX0_find_37 ns np nc nw eB wy m) (m2 (m2 (m2 m 0 10 (-1)) 11 0 (-1)) 11 1 (-1)) 20)
theorem fr_fX0_find (ns : Nat) (np : Nat) (nc : Nat) (nw : Nat) (eB : Nat → Nat) (wy : Nat → Nat) (m : Mem) (f : Nat) (h0 : f % 64 ≠ 0) (h6 : f % 64 ≠ 6) (h7 : f % 64 ≠ 7) (h8 : f % 64 ≠ 8) (h9 : f % 64 ≠ 9) (h11 : f % 64 ≠ 11) : fX0_find ns np nc nw eB wy m f = m f := (fi_lX0_find_37 ns np nc nw eB wy m (m2 (m2 (m2 m 0 10 (-1)) 11 0 (-1)) 11 1 (-1)) 20 f h0 h6 h7 h8 h9 h11).trans ((m2_ff _ _ (by omega)).trans ((m2_ff _ _ (by omega)).trans ((m2_ff _ _ (by omega)).trans (rfl))))
set_option maxHeartbeats 4000000 in
set_option maxRecDepth 100000 in
theorem tlX0_find (x : Hx) (g : Gx) (ad : Nat → Nat) (ds : Nat → Option Lay) (m : Mem)  (ns : Nat) (np : Nat) (nc : Nat) (nw : Nat) (ne : Nat) (eB : Nat → Nat) (wy : Nat → Nat) (q : Nat → Nat) (N : Nat → Nat) (hD : DD ds ns np nc nw ne eB wy q N) (hn0 : m 32 2 = nI ns) (hn1 : m 42 2 = nI np) (hn2 : m 4 2 = nI nc) (hn3 : m 5 2 = nI nw) (hn4 : m 21 2 = nI ne)  (mc ms k_ n_ : Nat) (F : Fx g cX0_find 3 RX0 7 mc ms (KC x)) (hA : gx_A g = hx_A x) (hk_ : k_ ≤ mc) (hn_ : n_ ≤ ms) (kk : Wd (PicH x) g 3 (ad, ds, (fX0_find ns np nc nw eB wy m)) k_ n_ 251 [(0, .ref (ad 0))] []) : Wd (PicH x) g 3 (ad, ds, m) k_ n_ 16 [(0, .ref (ad 0))] [] := by
  have hD_ := hD
  obtain ⟨hds, ⟨hL0, hL1, hL2, hL3, hL4⟩, ⟨hS, hB, hC, hW, hE⟩, rB, hwy, lns, lnp, lnc, lnw, lne⟩ := hD_
  refine ro_aload_n F dX0_find_16 0 rfl ?_
  refine ro_iconst (v := (-1)) F dX0_find_17 (by decide) ?_
  refine hh_put F F.k.1 hA in_X0 tyX0 tyX0_ok nmX0 (F.k.c rfl) 0 (hds 0 _ rfl) (by omega) 10 (by decide) qX0_252 (fun _ h => h) (Nat.le_of_ble_eq_true rfl) rfl rfl rfl rfl dX0_find_18 ?_
  refine ro_aload_n F dX0_find_21 0 rfl ?_
  refine hh_get F F.k.1 in_X0 (F.k.c rfl) 0 (hds 0 _ rfl) 11 (by decide) qX0_55 (fun _ h => h) (Nat.le_of_ble_eq_true rfl) (v := .ref (ad 11)) rfl dX0_find_22 ?_
  refine ro_iconst (v := (nI 0)) F dX0_find_25 (by decide) ?_
  refine ro_iconst (v := (-1)) F dX0_find_26 (by decide) ?_
  refine hh_stI F F.k.1 hA 11 2 (hds 11 _ rfl) (by omega) (by decide) (by omega) dX0_find_27 ?_
  refine ro_aload_n F dX0_find_28 0 rfl ?_
  refine hh_get F F.k.1 in_X0 (F.k.c rfl) 0 (hds 0 _ rfl) 11 (by decide) qX0_55 (fun _ h => h) (Nat.le_of_ble_eq_true rfl) (v := .ref (ad 11)) rfl dX0_find_29 ?_
  refine ro_iconst (v := (nI 1)) F dX0_find_32 (by decide) ?_
  refine ro_iconst (v := (-1)) F dX0_find_33 (by decide) ?_
  refine hh_stI F F.k.1 hA 11 2 (hds 11 _ rfl) (by omega) (by decide) (by omega) dX0_find_34 ?_
  refine ro_iconst (v := (nI 0)) F dX0_find_35 (by decide) ?_
  refine ro_istore_n (lv' := [(0, .ref (ad 0)), (1, .int (nI 0))]) F dX0_find_36 (Nat.le_of_ble_eq_true rfl) [1, 0] rfl ?_
  refine it_loop 20 (lX0_find_37 ns np nc nw eB wy m) (m2 (m2 (m2 m 0 10 (-1)) 11 0 (-1)) 11 1 (-1)) (fun (_ : Nat) (b37 : Mem) => ∀ f : Nat, f % 64 ≠ 0 → f % 64 ≠ 6 → f % 64 ≠ 7 → f % 64 ≠ 8 → f % 64 ≠ 9 → f % 64 ≠ 11 → b37 f = (m2 (m2 (m2 m 0 10 (-1)) 11 0 (-1)) 11 1 (-1)) f) (fun (i37 : Nat) (b37 : Mem) => Wd (PicH x) g 3 (ad, ds, b37) k_ n_ 37 [(0, .ref (ad 0)), (1, .int (nI i37))] []) (fun f _ _ _ _ _ _ => rfl) (fun i_ b_ _ hb f h0 h6 h7 h8 h9 h11 => (fr_lX0_find_37 ns np nc nw eB wy m i_ b_ f h0 h6 h7 h8 h9 h11).trans (hb f h0 h6 h7 h8 h9 h11)) (fun i37 b37 hi37 hf37 ih37 => ?_) (fun b37 hf37 he37 => ?_)
  · refine ro_iload_n F dX0_find_37 1 rfl ?_
    refine ro_bipush (v := (nI 20)) F dX0_find_38 (by decide) ?_
    refine ro_icmp_geN (tgt := 251) F dX0_find_40 (by decide) (by omega) (by omega) (fun c40 => absurd c40 (by omega)) (fun c40 => ?_)
    refine ro_iconst (v := (nI 0)) F dX0_find_43 (by decide) ?_
    refine ro_istore_n (lv' := [(0, .ref (ad 0)), (1, .int (nI i37)), (2, .int (nI 0))]) F dX0_find_44 (Nat.le_of_ble_eq_true rfl) [1, 2, 0] rfl ?_
    refine it_loop np (lX0_find_45 nw eB m i37) b37 (fun (_ : Nat) (b45 : Mem) => ∀ f : Nat, f % 64 ≠ 9 → b45 f = b37 f) (fun (i45 : Nat) (b45 : Mem) => Wd (PicH x) g 3 (ad, ds, b45) k_ n_ 45 [(0, .ref (ad 0)), (1, .int (nI i37)), (2, .int (nI i45))] []) (fun f _ => rfl) (fun i_ b_ _ hb f h9 => (fr_lX0_find_45 nw eB m i37 i_ b_ f h9).trans (hb f h9)) (fun i45 b45 hi45 hf45 ih45 => ?_) (fun b45 hf45 he45 => ?_)
    · refine ro_iload_n F dX0_find_45 2 rfl ?_
      refine ro_aload_n F dX0_find_46 0 rfl ?_
      refine hh_get F F.k.1 in_X0 (F.k.c rfl) 0 (hds 0 _ rfl) 2 (by decide) qX0_23 (fun _ h => h) (Nat.le_of_ble_eq_true rfl) (v := .ref (ad 2)) rfl dX0_find_47 ?_
      refine hh_get F F.k.1 in_X3 (F.k.c rfl) 2 (hds 2 _ rfl) 6 (by decide) qX0_159 (u_same (F.ts _ q162)) (Nat.le_of_ble_eq_true rfl) (v := .ref (ad 42)) rfl dX0_find_50 ?_
      refine cl_size F hA hL1 ((congrFun (hf45 42 (by omega)) 2).trans ((congrFun (hf37 42 (by omega) (by omega) (by omega) (by omega) (by omega) (by omega)) 2).trans ((m2_f _ _ (by omega)).trans ((m2_f _ _ (by omega)).trans ((m2_f _ _ (by omega)).trans (hn1)))))) cwX0_170 (Nat.le_of_ble_eq_true rfl) hk_ hn_ (Nat.le_of_ble_eq_true rfl) dX0_find_53 ?_
      refine ro_icmp_geN (tgt := 107) F dX0_find_56 (by decide) (by omega) (by omega) (fun c56 => absurd c56 (by omega)) (fun c56 => ?_)
      refine ro_aload_n F dX0_find_59 0 rfl ?_
      refine hh_get F F.k.1 in_X0 (F.k.c rfl) 0 (hds 0 _ rfl) 9 (by decide) qX0_52 (fun _ h => h) (Nat.le_of_ble_eq_true rfl) (v := .ref (ad 9)) rfl dX0_find_60 ?_
      refine ro_iload_n F dX0_find_63 1 rfl ?_
      refine hh_ldA F F.k.1 9 5 20 (hds 9 _ rfl) (by decide) rfl (by decide) (q := 9 + 64 * (i37 + 1)) (by omega) dX0_find_64 (rw_at (by omega)) ?_
      refine ro_iload_n F dX0_find_65 2 rfl ?_
      refine ro_bipush (v := (nI 10)) F dX0_find_66 (by decide) ?_
      refine ro_aload_n F dX0_find_68 0 rfl ?_
      refine hh_get F F.k.1 in_X0 (F.k.c rfl) 0 (hds 0 _ rfl) 2 (by decide) qX0_23 (fun _ h => h) (Nat.le_of_ble_eq_true rfl) (v := .ref (ad 2)) rfl dX0_find_69 ?_
      refine hh_get F F.k.1 in_X3 (F.k.c rfl) 2 (hds 2 _ rfl) 6 (by decide) qX0_159 (u_same (F.ts _ q162)) (Nat.le_of_ble_eq_true rfl) (v := .ref (ad 42)) rfl dX0_find_72 ?_
      refine ro_iload_n F dX0_find_75 2 rfl ?_
      have hz := rB i45
      refine cl_get F hA hL1 ((congrFun (hf45 42 (by omega)) 2).trans ((congrFun (hf37 42 (by omega) (by omega) (by omega) (by omega) (by omega) (by omega)) 2).trans ((m2_f _ _ (by omega)).trans ((m2_f _ _ (by omega)).trans ((m2_f _ _ (by omega)).trans (hn1)))))) (by omega) cwX0_147 (Nat.le_of_ble_eq_true rfl) hk_ hn_ (Nat.le_of_ble_eq_true rfl) dX0_find_76 ?_
      refine cc_cast F (p := (eB i45)) (hB i45 (by omega)) (ci := 4) rfl q197 dX0_find_79 ?_
      refine hh_getN F F.k.1 in_X4 (F.k.c rfl) (eB i45) (hB i45 (by omega)) 0 (by decide) F.k.2.2.1.2.2.2.2.1 (fun _ h => h) (Nat.le_of_ble_eq_true rfl) (v := .int (m (eB i45) 0)) (congrArg Value.int ((congrFun (hf45 (eB i45) (by omega)) 0).trans ((congrFun (hf37 (eB i45) (by omega) (by omega) (by omega) (by omega) (by omega) (by omega)) 0).trans ((m2_f _ _ (by omega)).trans ((m2_f _ _ (by omega)).trans (m2_f _ _ (by omega))))))) dX0_find_82 ?_
      refine ro_imul F dX0_find_85 ?_
      refine ro_aload_n F dX0_find_86 0 rfl ?_
      refine ro_iload_n F dX0_find_87 1 rfl ?_
      refine co_cV (rest := [.int ((nI 10) * (m (eB i45) 0)), .int (nI i45), .ref (ad (9 + 64 * (i37 + 1)))]) F hA hds (metX0_isWar (gx_l g) x ad ds b45 i37 ns np nc nw ne eB wy q N hD ((congrFun (hf45 5 (by omega)) 2).trans ((congrFun (hf37 5 (by omega) (by omega) (by omega) (by omega) (by omega) (by omega)) 2).trans ((m2_f _ _ (by omega)).trans ((m2_f _ _ (by omega)).trans ((m2_f _ _ (by omega)).trans (hn3)))))) (by omega)) cwX0_258 hdX0_isWar rfl (Nat.le_of_ble_eq_true rfl) (Nat.le_of_ble_eq_true rfl) hk_ hn_ rfl (Nat.le_of_ble_eq_true rfl) dX0_find_88 ?_
      have J99_91 : Wd (PicH x) g 3 (ad, ds, b45) k_ n_ 99 [(0, .ref (ad 0)), (1, .int (nI i37)), (2, .int (nI i45))] [.int (nI (if (rX0_isWar i37 nw b45) = 0 then 1 else 2)), .int ((nI 10) * (m (eB i45) 0)), .int (nI i45), .ref (ad (9 + 64 * (i37 + 1)))] := by
        refine ro_idiv F dX0_find_99 (by split <;> decide) ?_
        refine hh_stI F F.k.1 hA (9 + 64 * (i37 + 1)) 9 (hds _ _ (fix_9 (by omega))) (by omega) (by decide) (by omega) dX0_find_100 ?_
        refine ro_iincN (z := 1) (lv' := [(0, .ref (ad 0)), (1, .int (nI i37)), (2, .int (nI (i45 + 1)))]) F dX0_find_101 2 rfl (Nat.le_of_ble_eq_true rfl) [1, 2, 0] rfl ?_
        refine ro_goto (tgt := 45) F dX0_find_104 (by decide) ?_
        exact ih45
      refine ro_if_eq (tgt := 98) F dX0_find_91 (by decide) (fun c91 => ?_) (fun c91 => ?_)
      · refine ro_iconst (v := (nI 1)) F dX0_find_98 (by decide) ?_
        exact Wd.to J99_91 rfl rfl (congrArg (fun z => ([Value.int z, .int ((nI 10) * (m (eB i45) 0)), .int (nI i45), .ref (ad (9 + 64 * (i37 + 1)))] : List Value)) (congrArg nI (by simp only [if_pos c91])))
      · refine ro_iconst (v := (nI 2)) F dX0_find_94 (by decide) ?_
        refine ro_goto (tgt := 99) F dX0_find_95 (by decide) ?_
        exact Wd.to J99_91 rfl rfl (congrArg (fun z => ([Value.int z, .int ((nI 10) * (m (eB i45) 0)), .int (nI i45), .ref (ad (9 + 64 * (i37 + 1)))] : List Value)) (congrArg nI (by simp only [if_neg c91])))
    subst he45
    refine ro_iload_n F dX0_find_45 2 rfl ?_
    refine ro_aload_n F dX0_find_46 0 rfl ?_
    refine hh_get F F.k.1 in_X0 (F.k.c rfl) 0 (hds 0 _ rfl) 2 (by decide) qX0_23 (fun _ h => h) (Nat.le_of_ble_eq_true rfl) (v := .ref (ad 2)) rfl dX0_find_47 ?_
    refine hh_get F F.k.1 in_X3 (F.k.c rfl) 2 (hds 2 _ rfl) 6 (by decide) qX0_159 (u_same (F.ts _ q162)) (Nat.le_of_ble_eq_true rfl) (v := .ref (ad 42)) rfl dX0_find_50 ?_
    refine cl_size F hA hL1 ((congrFun (fi_lX0_find_45 nw eB m i37 b37 np 42 (by omega)) 2).trans ((congrFun (hf37 42 (by omega) (by omega) (by omega) (by omega) (by omega) (by omega)) 2).trans ((m2_f _ _ (by omega)).trans ((m2_f _ _ (by omega)).trans ((m2_f _ _ (by omega)).trans (hn1)))))) cwX0_170 (Nat.le_of_ble_eq_true rfl) hk_ hn_ (Nat.le_of_ble_eq_true rfl) dX0_find_53 ?_
    refine ro_icmp_geN (tgt := 107) F dX0_find_56 (by decide) (by omega) (by omega) (fun c56 => ?_) (fun c56 => absurd c56 (by omega))
    refine ro_iconst (v := (nI 0)) F dX0_find_107 (by decide) ?_
    refine ro_istore_n (lv' := [(0, .ref (ad 0)), (1, .int (nI i37)), (2, .int (nI 0))]) F dX0_find_108 (Nat.le_of_ble_eq_true rfl) [1, 2, 0] rfl ?_
    refine it_loop ns (lX0_find_109 wy i37) (it (lX0_find_45 nw eB m i37) b37 np) (fun (_ : Nat) (b109 : Mem) => ∀ f : Nat, f % 64 ≠ 6 → f % 64 ≠ 7 → f % 64 ≠ 8 → b109 f = (it (lX0_find_45 nw eB m i37) b37 np) f) (fun (i109 : Nat) (b109 : Mem) => Wd (PicH x) g 3 (ad, ds, b109) k_ n_ 109 [(0, .ref (ad 0)), (1, .int (nI i37)), (2, .int (nI i109))] []) (fun f _ _ _ => rfl) (fun i_ b_ _ hb f h6 h7 h8 => (fr_lX0_find_109 wy i37 i_ b_ f h6 h7 h8).trans (hb f h6 h7 h8)) (fun i109 b109 hi109 hf109 ih109 => ?_) (fun b109 hf109 he109 => ?_)
    · refine ro_iload_n F dX0_find_109 2 rfl ?_
      refine ro_aload_n F dX0_find_110 0 rfl ?_
      refine hh_get F F.k.1 in_X0 (F.k.c rfl) 0 (hds 0 _ rfl) 1 (by decide) qX0_14 (fun _ h => h) (Nat.le_of_ble_eq_true rfl) (v := .ref (ad 1)) rfl dX0_find_111 ?_
      refine hh_get F F.k.1 in_X2 (F.k.c rfl) 1 (hds 1 _ rfl) 6 (by decide) qX0_144 (u_same (F.ts _ q160)) (Nat.le_of_ble_eq_true rfl) (v := .ref (ad 32)) rfl dX0_find_114 ?_
      refine cl_size F hA hL0 ((congrFun (hf109 32 (by omega) (by omega) (by omega)) 2).trans ((congrFun (fi_lX0_find_45 nw eB m i37 b37 np 32 (by omega)) 2).trans ((congrFun (hf37 32 (by omega) (by omega) (by omega) (by omega) (by omega) (by omega)) 2).trans ((m2_f _ _ (by omega)).trans ((m2_f _ _ (by omega)).trans ((m2_f _ _ (by omega)).trans (hn0))))))) cwX0_170 (Nat.le_of_ble_eq_true rfl) hk_ hn_ (Nat.le_of_ble_eq_true rfl) dX0_find_117 ?_
      refine ro_icmp_geN (tgt := 135) F dX0_find_120 (by decide) (by omega) (by omega) (fun c120 => absurd c120 (by omega)) (fun c120 => ?_)
      refine ro_aload_n F dX0_find_123 0 rfl ?_
      refine ro_iload_n F dX0_find_124 1 rfl ?_
      refine ro_iload_n F dX0_find_125 2 rfl ?_
      refine co_cV (rest := []) F hA hds (metX0_mounts (gx_l g) x ad ds b109 i37 i109 ns np nc nw ne eB wy q N hD ((congrFun (hf109 32 (by omega) (by omega) (by omega)) 2).trans ((congrFun (fi_lX0_find_45 nw eB m i37 b37 np 32 (by omega)) 2).trans ((congrFun (hf37 32 (by omega) (by omega) (by omega) (by omega) (by omega) (by omega)) 2).trans ((m2_f _ _ (by omega)).trans ((m2_f _ _ (by omega)).trans ((m2_f _ _ (by omega)).trans (hn0))))))) (by omega) (by omega)) cwX0_261 hdX0_mounts rfl (Nat.le_of_ble_eq_true rfl) (Nat.le_of_ble_eq_true rfl) hk_ hn_ rfl (Nat.le_of_ble_eq_true rfl) dX0_find_126 ?_
      refine ro_iincN (z := 1) (lv' := [(0, .ref (ad 0)), (1, .int (nI i37)), (2, .int (nI (i109 + 1)))]) F dX0_find_129 2 rfl (Nat.le_of_ble_eq_true rfl) [1, 2, 0] rfl ?_
      refine ro_goto (tgt := 109) F dX0_find_132 (by decide) ?_
      exact ih109
    subst he109
    refine ro_iload_n F dX0_find_109 2 rfl ?_
    refine ro_aload_n F dX0_find_110 0 rfl ?_
    refine hh_get F F.k.1 in_X0 (F.k.c rfl) 0 (hds 0 _ rfl) 1 (by decide) qX0_14 (fun _ h => h) (Nat.le_of_ble_eq_true rfl) (v := .ref (ad 1)) rfl dX0_find_111 ?_
    refine hh_get F F.k.1 in_X2 (F.k.c rfl) 1 (hds 1 _ rfl) 6 (by decide) qX0_144 (u_same (F.ts _ q160)) (Nat.le_of_ble_eq_true rfl) (v := .ref (ad 32)) rfl dX0_find_114 ?_
    refine cl_size F hA hL0 ((congrFun (fi_lX0_find_109 wy i37 (it (lX0_find_45 nw eB m i37) b37 np) ns 32 (by omega) (by omega) (by omega)) 2).trans ((congrFun (fi_lX0_find_45 nw eB m i37 b37 np 32 (by omega)) 2).trans ((congrFun (hf37 32 (by omega) (by omega) (by omega) (by omega) (by omega) (by omega)) 2).trans ((m2_f _ _ (by omega)).trans ((m2_f _ _ (by omega)).trans ((m2_f _ _ (by omega)).trans (hn0))))))) cwX0_170 (Nat.le_of_ble_eq_true rfl) hk_ hn_ (Nat.le_of_ble_eq_true rfl) dX0_find_117 ?_
    refine ro_icmp_geN (tgt := 135) F dX0_find_120 (by decide) (by omega) (by omega) (fun c120 => ?_) (fun c120 => absurd c120 (by omega))
    refine ro_iconst (v := (nI 0)) F dX0_find_135 (by decide) ?_
    refine ro_istore_n (lv' := [(0, .ref (ad 0)), (1, .int (nI i37)), (2, .int (nI 0))]) F dX0_find_136 (Nat.le_of_ble_eq_true rfl) [1, 2, 0] rfl ?_
    refine it_loop ns (lX0_find_137 np nc eB wy i37 b37) (it (lX0_find_109 wy i37) (it (lX0_find_45 nw eB m i37) b37 np) ns) (fun (_ : Nat) (b137 : Mem) => ∀ f : Nat, f % 64 ≠ 6 → f % 64 ≠ 7 → f % 64 ≠ 8 → f % 64 ≠ 9 → f % 64 ≠ 11 → b137 f = (it (lX0_find_109 wy i37) (it (lX0_find_45 nw eB m i37) b37 np) ns) f) (fun (i137 : Nat) (b137 : Mem) => Wd (PicH x) g 3 (ad, ds, b137) k_ n_ 137 [(0, .ref (ad 0)), (1, .int (nI i37)), (2, .int (nI i137))] []) (fun f _ _ _ _ _ => rfl) (fun i_ b_ _ hb f h6 h7 h8 h9 h11 => (fr_lX0_find_137 np nc eB wy i37 b37 i_ b_ f h6 h7 h8 h9 h11).trans (hb f h6 h7 h8 h9 h11)) (fun i137 b137 hi137 hf137 ih137 => ?_) (fun b137 hf137 he137 => ?_)
    · refine ro_iload_n F dX0_find_137 2 rfl ?_
      refine ro_aload_n F dX0_find_138 0 rfl ?_
      refine hh_get F F.k.1 in_X0 (F.k.c rfl) 0 (hds 0 _ rfl) 1 (by decide) qX0_14 (fun _ h => h) (Nat.le_of_ble_eq_true rfl) (v := .ref (ad 1)) rfl dX0_find_139 ?_
      refine hh_get F F.k.1 in_X2 (F.k.c rfl) 1 (hds 1 _ rfl) 6 (by decide) qX0_144 (u_same (F.ts _ q160)) (Nat.le_of_ble_eq_true rfl) (v := .ref (ad 32)) rfl dX0_find_142 ?_
      refine cl_size F hA hL0 ((congrFun (hf137 32 (by omega) (by omega) (by omega) (by omega) (by omega)) 2).trans ((congrFun (fi_lX0_find_109 wy i37 (it (lX0_find_45 nw eB m i37) b37 np) ns 32 (by omega) (by omega) (by omega)) 2).trans ((congrFun (fi_lX0_find_45 nw eB m i37 b37 np 32 (by omega)) 2).trans ((congrFun (hf37 32 (by omega) (by omega) (by omega) (by omega) (by omega) (by omega)) 2).trans ((m2_f _ _ (by omega)).trans ((m2_f _ _ (by omega)).trans ((m2_f _ _ (by omega)).trans (hn0)))))))) cwX0_170 (Nat.le_of_ble_eq_true rfl) hk_ hn_ (Nat.le_of_ble_eq_true rfl) dX0_find_145 ?_
      refine ro_icmp_geN (tgt := 208) F dX0_find_148 (by decide) (by omega) (by omega) (fun c148 => absurd c148 (by omega)) (fun c148 => ?_)
      refine ro_aload_n F dX0_find_151 0 rfl ?_
      refine hh_get F F.k.1 in_X0 (F.k.c rfl) 0 (hds 0 _ rfl) 1 (by decide) qX0_14 (fun _ h => h) (Nat.le_of_ble_eq_true rfl) (v := .ref (ad 1)) rfl dX0_find_152 ?_
      refine hh_get F F.k.1 in_X2 (F.k.c rfl) 1 (hds 1 _ rfl) 6 (by decide) qX0_144 (u_same (F.ts _ q160)) (Nat.le_of_ble_eq_true rfl) (v := .ref (ad 32)) rfl dX0_find_155 ?_
      refine ro_iload_n F dX0_find_158 2 rfl ?_
      refine cl_get F hA hL0 ((congrFun (hf137 32 (by omega) (by omega) (by omega) (by omega) (by omega)) 2).trans ((congrFun (fi_lX0_find_109 wy i37 (it (lX0_find_45 nw eB m i37) b37 np) ns 32 (by omega) (by omega) (by omega)) 2).trans ((congrFun (fi_lX0_find_45 nw eB m i37 b37 np 32 (by omega)) 2).trans ((congrFun (hf37 32 (by omega) (by omega) (by omega) (by omega) (by omega) (by omega)) 2).trans ((m2_f _ _ (by omega)).trans ((m2_f _ _ (by omega)).trans ((m2_f _ _ (by omega)).trans (hn0)))))))) (by omega) cwX0_147 (Nat.le_of_ble_eq_true rfl) hk_ hn_ (Nat.le_of_ble_eq_true rfl) dX0_find_159 ?_
      refine cc_cast F (p := (32 + 64 * (i137 + 1))) (hS i137 (by omega)) (ci := 5) rfl q682 dX0_find_162 ?_
      refine hh_getN F F.k.1 in_X8 (F.k.c rfl) (32 + 64 * (i137 + 1)) (hS i137 (by omega)) 1 (by decide) F.k.2.2.1.1 (fun _ h => h) (Nat.le_of_ble_eq_true rfl) (v := .ref (ad (wy i137))) rfl dX0_find_165 ?_
      refine ro_aload_n F dX0_find_168 0 rfl ?_
      refine ro_iload_n F dX0_find_169 1 rfl ?_
      refine ro_iload_n F dX0_find_170 2 rfl ?_
      refine co_cV (rest := [.ref (ad (wy i137))]) F hA hds (metX0_isCalled (gx_l g) x ad ds b137 i37 i137 ns np nc nw ne eB wy q N hD ((congrFun (hf137 4 (by omega) (by omega) (by omega) (by omega) (by omega)) 2).trans ((congrFun (fi_lX0_find_109 wy i37 (it (lX0_find_45 nw eB m i37) b37 np) ns 4 (by omega) (by omega) (by omega)) 2).trans ((congrFun (fi_lX0_find_45 nw eB m i37 b37 np 4 (by omega)) 2).trans ((congrFun (hf37 4 (by omega) (by omega) (by omega) (by omega) (by omega) (by omega)) 2).trans ((m2_f _ _ (by omega)).trans ((m2_f _ _ (by omega)).trans ((m2_f _ _ (by omega)).trans (hn2)))))))) (by omega) (by omega)) cwX0_263 hdX0_isCalled rfl (Nat.le_of_ble_eq_true rfl) (Nat.le_of_ble_eq_true rfl) hk_ hn_ rfl (Nat.le_of_ble_eq_true rfl) dX0_find_171 ?_
      have J190_174 : Wd (PicH x) g 3 (ad, ds, b137) k_ n_ 190 [(0, .ref (ad 0)), (1, .int (nI i37)), (2, .int (nI i137))] [.int (b2 (¬ ((rX0_isCalled i37 i137 nc b137) = 0) ∨ (¬ ((b37 0 10) = (-1))))), .ref (ad (wy i137))] := by
        refine cc_comes F hA hds (hwy i137) (Nat.le_of_ble_eq_true rfl) hk_ hn_ (Nat.le_of_ble_eq_true rfl) dX0_find_190 ?_
        have J202_193 : Wd (PicH x) g 3 (ad, ds, (if wy i137 = 124 ∨ (¬ ((rX0_isCalled i37 i137 nc b137) = 0) ∨ (¬ ((b37 0 10) = (-1)))) then (fX0_hearsAll i37 i137 np eB b137) else b137)) k_ n_ 202 [(0, .ref (ad 0)), (1, .int (nI i37)), (2, .int (nI i137))] [] := by
          refine ro_iincN (z := 1) (lv' := [(0, .ref (ad 0)), (1, .int (nI i37)), (2, .int (nI (i137 + 1)))]) F dX0_find_202 2 rfl (Nat.le_of_ble_eq_true rfl) [1, 2, 0] rfl ?_
          refine ro_goto (tgt := 137) F dX0_find_205 (by decide) ?_
          exact ih137
        refine ro_if_eqB (tgt := 202) F dX0_find_193 (by decide) (fun c193 => ?_) (fun c193 => ?_)
        · exact Wd.to J202_193 (by simp only [if_neg c193]) rfl rfl
        · refine ro_aload_n F dX0_find_196 0 rfl ?_
          refine ro_iload_n F dX0_find_197 1 rfl ?_
          refine ro_iload_n F dX0_find_198 2 rfl ?_
          refine co_cV (rest := []) F hA hds (metX0_hearsAll (gx_l g) x ad ds b137 i37 i137 ns np nc nw ne eB wy q N hD ((congrFun (hf137 32 (by omega) (by omega) (by omega) (by omega) (by omega)) 2).trans ((congrFun (fi_lX0_find_109 wy i37 (it (lX0_find_45 nw eB m i37) b37 np) ns 32 (by omega) (by omega) (by omega)) 2).trans ((congrFun (fi_lX0_find_45 nw eB m i37 b37 np 32 (by omega)) 2).trans ((congrFun (hf37 32 (by omega) (by omega) (by omega) (by omega) (by omega) (by omega)) 2).trans ((m2_f _ _ (by omega)).trans ((m2_f _ _ (by omega)).trans ((m2_f _ _ (by omega)).trans (hn0)))))))) ((congrFun (hf137 42 (by omega) (by omega) (by omega) (by omega) (by omega)) 2).trans ((congrFun (fi_lX0_find_109 wy i37 (it (lX0_find_45 nw eB m i37) b37 np) ns 42 (by omega) (by omega) (by omega)) 2).trans ((congrFun (fi_lX0_find_45 nw eB m i37 b37 np 42 (by omega)) 2).trans ((congrFun (hf37 42 (by omega) (by omega) (by omega) (by omega) (by omega) (by omega)) 2).trans ((m2_f _ _ (by omega)).trans ((m2_f _ _ (by omega)).trans ((m2_f _ _ (by omega)).trans (hn1)))))))) (by omega) (by omega)) cwX0_270 hdX0_hearsAll rfl (Nat.le_of_ble_eq_true rfl) (Nat.le_of_ble_eq_true rfl) hk_ hn_ rfl (Nat.le_of_ble_eq_true rfl) dX0_find_199 ?_
          exact Wd.to J202_193 (by simp only [if_pos c193]) rfl rfl
      refine ro_if_ne (tgt := 185) F dX0_find_174 (by decide) (fun c174 => ?_) (fun c174 => ?_)
      · refine ro_iconst (v := (nI 1)) F dX0_find_185 (by decide) ?_
        refine ro_goto (tgt := 190) F dX0_find_186 (by decide) ?_
        exact Wd.to J190_174 rfl rfl (congrArg (fun z => ([Value.int z, .ref (ad (wy i137))] : List Value)) ((b2_t (by simp [c174])).symm))
      · refine ro_aload_n F dX0_find_177 0 rfl ?_
        refine hh_get F F.k.1 in_X0 (F.k.c rfl) 0 (hds 0 _ rfl) 10 (by decide) qX0_252 (fun _ h => h) (Nat.le_of_ble_eq_true rfl) (v := .int (b37 0 10)) (congrArg Value.int ((congrFun (hf137 0 (by omega) (by omega) (by omega) (by omega) (by omega)) 10).trans ((congrFun (fi_lX0_find_109 wy i37 (it (lX0_find_45 nw eB m i37) b37 np) ns 0 (by omega) (by omega) (by omega)) 10).trans (congrFun (fi_lX0_find_45 nw eB m i37 b37 np 0 (by omega)) 10)))) dX0_find_178 ?_
        refine ro_iconst (v := (-1)) F dX0_find_181 (by decide) ?_
        refine ro_icmp_eq (tgt := 189) F dX0_find_182 (by decide) (fun c182 => ?_) (fun c182 => ?_)
        · refine ro_iconst (v := (nI 0)) F dX0_find_189 (by decide) ?_
          exact Wd.to J190_174 rfl rfl (congrArg (fun z => ([Value.int z, .ref (ad (wy i137))] : List Value)) ((b2_f (by simp [c174, c182])).symm))
        · refine ro_iconst (v := (nI 1)) F dX0_find_185 (by decide) ?_
          refine ro_goto (tgt := 190) F dX0_find_186 (by decide) ?_
          exact Wd.to J190_174 rfl rfl (congrArg (fun z => ([Value.int z, .ref (ad (wy i137))] : List Value)) ((b2_t (by simp [c174, c182])).symm))
    subst he137
    refine ro_iload_n F dX0_find_137 2 rfl ?_
    refine ro_aload_n F dX0_find_138 0 rfl ?_
    refine hh_get F F.k.1 in_X0 (F.k.c rfl) 0 (hds 0 _ rfl) 1 (by decide) qX0_14 (fun _ h => h) (Nat.le_of_ble_eq_true rfl) (v := .ref (ad 1)) rfl dX0_find_139 ?_
    refine hh_get F F.k.1 in_X2 (F.k.c rfl) 1 (hds 1 _ rfl) 6 (by decide) qX0_144 (u_same (F.ts _ q160)) (Nat.le_of_ble_eq_true rfl) (v := .ref (ad 32)) rfl dX0_find_142 ?_
    refine cl_size F hA hL0 ((congrFun (fi_lX0_find_137 np nc eB wy i37 b37 (it (lX0_find_109 wy i37) (it (lX0_find_45 nw eB m i37) b37 np) ns) ns 32 (by omega) (by omega) (by omega) (by omega) (by omega)) 2).trans ((congrFun (fi_lX0_find_109 wy i37 (it (lX0_find_45 nw eB m i37) b37 np) ns 32 (by omega) (by omega) (by omega)) 2).trans ((congrFun (fi_lX0_find_45 nw eB m i37 b37 np 32 (by omega)) 2).trans ((congrFun (hf37 32 (by omega) (by omega) (by omega) (by omega) (by omega) (by omega)) 2).trans ((m2_f _ _ (by omega)).trans ((m2_f _ _ (by omega)).trans ((m2_f _ _ (by omega)).trans (hn0)))))))) cwX0_170 (Nat.le_of_ble_eq_true rfl) hk_ hn_ (Nat.le_of_ble_eq_true rfl) dX0_find_145 ?_
    refine ro_icmp_geN (tgt := 208) F dX0_find_148 (by decide) (by omega) (by omega) (fun c148 => ?_) (fun c148 => absurd c148 (by omega))
    refine ro_aload_n F dX0_find_208 0 rfl ?_
    refine hh_get F F.k.1 in_X0 (F.k.c rfl) 0 (hds 0 _ rfl) 10 (by decide) qX0_252 (fun _ h => h) (Nat.le_of_ble_eq_true rfl) (v := .int (b37 0 10)) (congrArg Value.int ((congrFun (fi_lX0_find_137 np nc eB wy i37 b37 (it (lX0_find_109 wy i37) (it (lX0_find_45 nw eB m i37) b37 np) ns) ns 0 (by omega) (by omega) (by omega) (by omega) (by omega)) 10).trans ((congrFun (fi_lX0_find_109 wy i37 (it (lX0_find_45 nw eB m i37) b37 np) ns 0 (by omega) (by omega) (by omega)) 10).trans (congrFun (fi_lX0_find_45 nw eB m i37 b37 np 0 (by omega)) 10)))) dX0_find_209 ?_
    refine ro_iconst (v := (-1)) F dX0_find_212 (by decide) ?_
    have J245_213 : Wd (PicH x) g 3 (ad, ds, (if (b37 0 10) = (-1) then (if 20 ≤ (i37 + 1) then (it (lX0_find_137 np nc eB wy i37 b37) (it (lX0_find_109 wy i37) (it (lX0_find_45 nw eB m i37) b37 np) ns) ns) else (if (rX0_allOwed i37 ns (it (lX0_find_137 np nc eB wy i37 b37) (it (lX0_find_109 wy i37) (it (lX0_find_45 nw eB m i37) b37 np) ns) ns)) ≤ (m 3 1) then (it (lX0_find_137 np nc eB wy i37 b37) (it (lX0_find_109 wy i37) (it (lX0_find_45 nw eB m i37) b37 np) ns) ns) else (m2 (it (lX0_find_137 np nc eB wy i37 b37) (it (lX0_find_109 wy i37) (it (lX0_find_45 nw eB m i37) b37 np) ns) ns) 0 10 (nI (i37 + 1))))) else (it (lX0_find_137 np nc eB wy i37 b37) (it (lX0_find_109 wy i37) (it (lX0_find_45 nw eB m i37) b37 np) ns) ns))) k_ n_ 245 [(0, .ref (ad 0)), (1, .int (nI i37))] [] := by
      refine ro_iincN (z := 1) (lv' := [(0, .ref (ad 0)), (1, .int (nI (i37 + 1)))]) F dX0_find_245 1 rfl (Nat.le_of_ble_eq_true rfl) [1, 0] rfl ?_
      refine ro_goto (tgt := 37) F dX0_find_248 (by decide) ?_
      exact ih37
    refine ro_icmp_ne (tgt := 245) F dX0_find_213 (by decide) (fun c213 => ?_) (fun c213 => ?_)
    · exact Wd.sub (lv' := [(0, .ref (ad 0)), (1, .int (nI i37))]) [0, 1] rfl <| Wd.to J245_213 (by simp only [if_neg c213]) rfl rfl
    · refine ro_iload_n F dX0_find_216 1 rfl ?_
      refine ro_iconst (v := (nI 1)) F dX0_find_217 (by decide) ?_
      refine ro_iaddN F dX0_find_218 ?_
      refine ro_bipush (v := (nI 20)) F dX0_find_219 (by decide) ?_
      refine ro_icmp_geN (tgt := 245) F dX0_find_221 (by decide) (by omega) (by omega) (fun c221 => ?_) (fun c221 => ?_)
      · exact Wd.sub (lv' := [(0, .ref (ad 0)), (1, .int (nI i37))]) [0, 1] rfl <| Wd.to J245_213 (by simp only [if_pos c213, if_pos c221]) rfl rfl
      · refine ro_aload_n F dX0_find_224 0 rfl ?_
        refine ro_iload_n F dX0_find_225 1 rfl ?_
        refine co_cV (rest := []) F hA hds (metX0_allOwed (gx_l g) x ad ds (it (lX0_find_137 np nc eB wy i37 b37) (it (lX0_find_109 wy i37) (it (lX0_find_45 nw eB m i37) b37 np) ns) ns) i37 ns np nc nw ne eB wy q N hD ((congrFun (fi_lX0_find_137 np nc eB wy i37 b37 (it (lX0_find_109 wy i37) (it (lX0_find_45 nw eB m i37) b37 np) ns) ns 32 (by omega) (by omega) (by omega) (by omega) (by omega)) 2).trans ((congrFun (fi_lX0_find_109 wy i37 (it (lX0_find_45 nw eB m i37) b37 np) ns 32 (by omega) (by omega) (by omega)) 2).trans ((congrFun (fi_lX0_find_45 nw eB m i37 b37 np 32 (by omega)) 2).trans ((congrFun (hf37 32 (by omega) (by omega) (by omega) (by omega) (by omega) (by omega)) 2).trans ((m2_f _ _ (by omega)).trans ((m2_f _ _ (by omega)).trans ((m2_f _ _ (by omega)).trans (hn0)))))))) (by omega)) cwX0_273 hdX0_allOwed rfl (Nat.le_of_ble_eq_true rfl) (Nat.le_of_ble_eq_true rfl) hk_ hn_ rfl (Nat.le_of_ble_eq_true rfl) dX0_find_226 ?_
        refine ro_aload_n F dX0_find_229 0 rfl ?_
        refine hh_get F F.k.1 in_X0 (F.k.c rfl) 0 (hds 0 _ rfl) 3 (by decide) qX0_27 (fun _ h => h) (Nat.le_of_ble_eq_true rfl) (v := .ref (ad 3)) rfl dX0_find_230 ?_
        refine ro_iconst (v := (nI 1)) F dX0_find_233 (by decide) ?_
        refine hh_ldI F F.k.1 3 2 (hds 3 _ rfl) (by decide) (by omega) dX0_find_234 ((congrFun (fi_lX0_find_137 np nc eB wy i37 b37 (it (lX0_find_109 wy i37) (it (lX0_find_45 nw eB m i37) b37 np) ns) ns 3 (by omega) (by omega) (by omega) (by omega) (by omega)) 1).trans ((congrFun (fi_lX0_find_109 wy i37 (it (lX0_find_45 nw eB m i37) b37 np) ns 3 (by omega) (by omega) (by omega)) 1).trans ((congrFun (fi_lX0_find_45 nw eB m i37 b37 np 3 (by omega)) 1).trans ((congrFun (hf37 3 (by omega) (by omega) (by omega) (by omega) (by omega) (by omega)) 1).trans ((m2_f _ _ (by omega)).trans ((m2_f _ _ (by omega)).trans (m2_f _ _ (by omega)))))))) ?_
        refine ro_icmp_le (tgt := 245) F dX0_find_235 (by decide) (fun c235 => ?_) (fun c235 => ?_)
        · exact Wd.sub (lv' := [(0, .ref (ad 0)), (1, .int (nI i37))]) [0, 1] rfl <| Wd.to J245_213 (by simp only [if_pos c213, if_neg (Nat.not_le.mpr c221), if_pos c235]) rfl rfl
        · refine ro_aload_n F dX0_find_238 0 rfl ?_
          refine ro_iload_n F dX0_find_239 1 rfl ?_
          refine ro_iconst (v := (nI 1)) F dX0_find_240 (by decide) ?_
          refine ro_iaddN F dX0_find_241 ?_
          refine hh_put F F.k.1 hA in_X0 tyX0 tyX0_ok nmX0 (F.k.c rfl) 0 (hds 0 _ rfl) (by omega) 10 (by decide) qX0_252 (fun _ h => h) (Nat.le_of_ble_eq_true rfl) rfl rfl rfl rfl dX0_find_242 ?_
          exact Wd.sub (lv' := [(0, .ref (ad 0)), (1, .int (nI i37))]) [0, 1] rfl <| Wd.to J245_213 (by simp only [if_pos c213, if_neg (Nat.not_le.mpr c221), if_neg c235]) rfl rfl
  subst he37
  refine ro_iload_n F dX0_find_37 1 rfl ?_
  refine ro_bipush (v := (nI 20)) F dX0_find_38 (by decide) ?_
  refine ro_icmp_geN (tgt := 251) F dX0_find_40 (by decide) (by omega) (by omega) (fun c40 => ?_) (fun c40 => absurd c40 (by omega))
  exact Wd.sub (lv' := [(0, .ref (ad 0))]) [0] rfl kk
