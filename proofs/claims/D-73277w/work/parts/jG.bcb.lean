/-! the face: begin, back, commit, against the twin -/
-- jc_ref, rI_int, rR_ref, rR_null, rJ_long, ckR_ref, ckR_null, ckr_ref, ckr_null, ckW_int, ckW_ref, ckW_null, cI_ok, cR_ok, cR_null, cV_ok, cJ_ok, qH_eq, qD_in, aG_ref, aS_ref, aL_ref, pF_ref, cK_ref, cK_null, zI_lit, zJ_lit, zI_add, zI_sub, zI_mul, zI_neg, zI_eq, zI_lt, zI_le, Int.reduceLT, Int.reduceLE, Int.reduceAdd, Int.reduceSub, Int.reduceMul, Int.reduceNeg, Int.reduceEq, Int.reduceNe, reduceIte, jf_in, pFc_in, aGi, aGb, aSi, aLc_in, cKc_in, nA_in, jm_s1, jm_s2, jm_p1, jm_p2, jm_b, jn_b, jn_s, jn_p, jset_jset, jset_jpush2, ckR_is, ckr_is, rR_is, ckW_is, cR_is, obi2, ckW_int, eq_self, if_true, ref_null, if_false, ne_eq, not_true_eq_false, not_false_eq_true, decide_true, decide_false, decide_not, Bool.true_and, Bool.false_and, Bool.and_true, Bool.and_false, Bool.true_or, Bool.false_or, Bool.or_true, Bool.or_false, Bool.not_true, Bool.not_false, Bool.false_eq_true, bI_t, bI_f, Int.natCast_one, Int.cast_ofNat_Int, Int.natCast_zero, o2_0, o2_1, o2_2, o2_3, o2_4, o2_5, o2_6, o2_7, o2_8, o2_9, o2_10, o2_11, o2_12, o2_13, o2_14, o2_15, o2_16, o2_17, n2, o2s_0, o2s_1, o2s_2, o2s_3, o2s_4, o2s_5, o2s_6, o2s_7, o2s_8, o2s_9, o2s_10, o2s_11, o2s_12, o2s_13, o2s_14, o2s_15, o2s_16, o2s_17, o23_0, o23_1, o23_2, n23, o23s_0, o23s_1, o23s_2, o4_0, o4_1, o4_2, o4_3, o4_4, o4_5, o4_6, n4, o4s_0, o4s_1, o4s_2, o4s_3, o4s_4, o4s_5, o4s_6, o24_0, o24_1, o24_2, o24_3, o26_0, n26, o26s_0, o28_0, o22_0, o22_1, o22_2, o22_3, o22_4, o22_5, o47_0, o47_1, o47_2, o47_3, n47, o47s_0, o47s_1, o47s_2, o47s_3, o3_0, o3_1, o3_2, o3_3, o3_4, o12_0, o12_1, o13_0, o13_1, o13_2, o13_3, o13_4, o13_5, o13_6, o14_0, o14_1, o14_2, o14_3, o14_4, o14_5, o11_0, o11_1, o11_2, o11_3, o5_0, o5_1, o5_2, o5_3, o5_4, o5_5, o6_0, o6_1, o6_2, n6, o6s_0, o6s_1, o6s_2 = jc_ref, rI_int, rR_ref, rR_null, rJ_long, ckR_ref, ckR_null, ckr_ref, ckr_null, ckW_int, ckW_ref, ckW_null, cI_ok, cR_ok, cR_null, cV_ok, cJ_ok, qH_eq, qD_in, aG_ref, aS_ref, aL_ref, pF_ref, cK_ref, cK_null, zI_lit, zJ_lit, zI_add, zI_sub, zI_mul, zI_neg, zI_eq, zI_lt, zI_le, Int.reduceLT, Int.reduceLE, Int.reduceAdd, Int.reduceSub, Int.reduceMul, Int.reduceNeg, Int.reduceEq, Int.reduceNe, reduceIte, jf_in, pFc_in, aGi, aGb, aSi, aLc_in, cKc_in, nA_in, jm_s1, jm_s2, jm_p1, jm_p2, jm_b, jn_b, jn_s, jn_p, jset_jset, jset_jpush2, ckR_is, ckr_is, rR_is, ckW_is, cR_is, obi2, ckW_int, eq_self, if_true, ref_null, if_false, ne_eq, not_true_eq_false, not_false_eq_true, decide_true, decide_false, decide_not, Bool.true_and, Bool.false_and, Bool.and_true, Bool.and_false, Bool.true_or, Bool.false_or, Bool.or_true, Bool.or_false, Bool.not_true, Bool.not_false, Bool.false_eq_true, bI_t, bI_f, Int.natCast_one, Int.cast_ofNat_Int, Int.natCast_zero, o2_0, o2_1, o2_2, o2_3, o2_4, o2_5, o2_6, o2_7, o2_8, o2_9, o2_10, o2_11, o2_12, o2_13, o2_14, o2_15, o2_16, o2_17, n2, o2s_0, o2s_1, o2s_2, o2s_3, o2s_4, o2s_5, o2s_6, o2s_7, o2s_8, o2s_9, o2s_10, o2s_11, o2s_12, o2s_13, o2s_14, o2s_15, o2s_16, o2s_17, o23_0, o23_1, o23_2, n23, o23s_0, o23s_1, o23s_2, o4_0, o4_1, o4_2, o4_3, o4_4, o4_5, o4_6, n4, o4s_0, o4s_1, o4s_2, o4s_3, o4s_4, o4s_5, o4s_6, o24_0, o24_1, o24_2, o24_3, o26_0, n26, o26s_0, o28_0, o22_0, o22_1, o22_2, o22_3, o22_4, o22_5, o47_0, o47_1, o47_2, o47_3, n47, o47s_0, o47s_1, o47s_2, o47s_3, o3_0, o3_1, o3_2, o3_3, o3_4, o12_0, o12_1, o13_0, o13_1, o13_2, o13_3, o13_4, o13_5, o13_6, o14_0, o14_1, o14_2, o14_3, o14_4, o14_5, o11_0, o11_1, o11_2, o11_3, o5_0, o5_1, o5_2, o5_3, o5_4, o5_5, o6_0, o6_1, o6_2, n6, o6s_0, o6s_1, o6s_2
section
variable {d m : Nat} {h H H2 : AH} {x a b e n : Nat} {T T' X : Nat → Int → Int} {S S2 : Int → Int} {i k : Int} {P : Nat → Prop} {sc vl tq : Nat} {sen ver : Value} {seed : Int}
/-- what was is kept by the twin, S2 is what is -/
theorem kp_lv (e0 : ∀ i : Int, (i = 2 ∨ i = 16 ∨ i = 41 ∨ i = 42 ∨ i = 44 ∨ i = 48 ∨ i = 50 ∨ i = 55) → X 0 i = T 0 i) (ek : ∀ k, (k = 1 ∨ k = 2 ∨ k = 6 ∨ (15 ≤ k ∧ k ≤ 20) ∨ k = 22 ∨ k = 24 ∨ k = 25 ∨ (29 ≤ k ∧ k ≤ 31)) → X k = T k) (n0 : 0 ≤ T 0 44) (n8 : T 0 44 ≤ 8) (e2 : ∀ i, (i < 148 ∨ 1239 ≤ i) → S2 i = T 2 i) : LvT T (tg (kpQ X) 2 S2) S2 := by
  have tk : ∀ k : Nat, k ≠ 0 → k ≠ 2 → k ≠ 20 → k ≠ 21 → tg (kpQ X) 2 S2 k = X k := fun k k0 k2 k20 k21 => by rw [tg_ne k2, kpQ_k k0 k20 k21]
  have t0 : ∀ i : Int, i ≠ 44 → tg (kpQ X) 2 S2 0 i = X 0 i := fun i hi => by rw [tg_ne (by decide), kpQ_0 hi]
  have im := stQ_im (X := tg X 21 (bl 0 1091 (fun x => X 2 (148 + x)) (X 21))) (T := T) (T' := tg (kpQ X) 2 S2) (kk := 21) (by rw [tg_ne (by decide)]; exact ek 20 (by omega)) (by rw [tg_ne (by decide)]; exact e0 44 (by omega)) n0 n8 (fun i i0 i1 => by rw [tg_eq, ← ek 2 (by omega)]; unfold bl; rw [if_pos ⟨i0, i1⟩]) (by rw [tg_ne (by decide)]; rfl) (by rw [tg_ne (by decide)]; rfl)
  refine ⟨⟨fun k hk => by rw [tk k (by omega) (by omega) (by omega) (by omega)]; exact ek k (by omega), fun i hi => by rw [t0 i (by omega)]; exact e0 i (by omega), fun i hi => by rw [tg_eq]; exact e2 i hi, fun i _ _ => by rw [tk 6 (by decide) (by decide) (by decide) (by decide), ek 6 (by omega)]⟩, by rw [tk 1 (by decide) (by decide) (by decide) (by decide)]; exact ek 1 (by omega), by rw [t0 2 (by decide)]; exact e0 2 (by omega), by rw [t0 16 (by decide)]; exact e0 16 (by omega), fun i i0 i1 => by rw [tg_eq], im.1, im.2.1, im.2.2⟩
theorem TwI.kp {u : Int} (W : TwI T) (e0 : ∀ i : Int, (i = 2 ∨ i = 35 ∨ i = 42 ∨ i = 44) → X 0 i = T 0 i) (ek : ∀ k, (k = 1 ∨ k = 6 ∨ k = 7 ∨ k = 12 ∨ k = 16 ∨ k = 30 ∨ k = 31) → X k = T k) (W2 : StW S2) : TwI (tg (kpQ X) 2 S2) := by
  have tk : ∀ k : Nat, k ≠ 0 → k ≠ 2 → k ≠ 20 → k ≠ 21 → tg (kpQ X) 2 S2 k = X k := fun k k0 k2 k20 k21 => by rw [tg_ne k2, kpQ_k k0 k20 k21]
  have t0 : ∀ i : Int, i ≠ 44 → tg (kpQ X) 2 S2 0 i = X 0 i := fun i hi => by rw [tg_ne (by decide), kpQ_0 hi]
  have t44 : tg (kpQ X) 2 S2 0 44 = if X 0 44 = 8 then 8 else X 0 44 + 1 := by
    rw [tg_ne (by decide)]
    unfold kpQ
    rw [stQ_44, tg_ne (by decide)]
  obtain ⟨n0, n8⟩ := W.2.2.1
  refine W.up (fun k hk => by rw [tk k (by omega) (by omega) (by omega) (by omega)]; exact ek k hk) (by rw [t0 2 (by decide), e0 2 (by omega)]; exact W.1.2.2.2) (by rw [tg_eq]; exact W2) (by rw [t0 35 (by decide), e0 35 (by omega)]; exact W.2.1.2.2) ?_ (by rw [t0 42 (by decide), e0 42 (by omega)]; exact W.2.2.2.1)
  rw [t44, e0 44 (by omega)]
  split <;> omega
theorem RmI.kp {N : Int} (R : RmI N T) (e2 : X 0 2 = T 0 2) (e29 : X 29 = T 29) (e : ∀ i, i < 148 → S2 i = T 2 i) : RmI (N + 0) (tg (kpQ X) 2 S2) := by
  unfold RmI szS kpS at *
  rw [tg_ne (show (0 : Nat) ≠ 2 by decide), kpQ_0 (by decide), e2, tg_eq, tg_ne (show (29 : Nat) ≠ 2 by decide), kpQ_k (by decide) (by decide) (by decide), e29, e 1 (by omega), e 2 (by omega), e 3 (by omega), Int.add_zero]
  exact R
theorem s0_k {v : Int} {k : Nat} (hk : k ≠ 0) : ts T 0 0 v k = T k := ts_ne hk
theorem s0_0 {v i : Int} (hi : i ≠ 0) : ts T 0 0 v 0 i = T 0 i := by rw [ts_eq, fset_ne hi]
theorem op_begin (I : FaceI x H T) (W : TwI T) : OpR d m h x H T 2001 [] 7003 [] (9 + 80 * pvS (T 2)) (38 + 360 * pvS (T 2)) 0 := by
  obtain ⟨-, ⟨W2, -, -⟩, ⟨n0, n8⟩, -⟩ := id W
  obtain ⟨sc, sen, ver, vl, tg', seed, m0, -⟩ := I.ob
  have on := W2.2.2.2.2.2.1
  have te := tm_begin (d := d + 9) (m := m) (h := h) (T := T) on n0 n8
  have lo : ∀ i, (i < 148 ∨ 1239 ≤ i) → bgS (T 2) i = T 2 i := fun i hi => by rw [bgS_at, if_neg (by omega), if_neg (by omega), if_neg (by omega)]
  have L : tuV 0 (T 2) = 0 → LvT T (tg (kpQ (ts T 0 0 0)) 2 (bgS (T 2))) (tuS 0 (T 2)) := fun e => by
    have c : T 2 149 = 0 := by unfold tuV at e; rw [if_pos rfl] at e; split at e; assumption; omega
    rw [show tuS 0 (T 2) = bgS (T 2) by unfold tuS; rw [if_pos rfl, if_pos c]]
    exact kp_lv (fun i hi => s0_0 (by omega)) (fun k hk => s0_k (by omega)) n0 n8 lo
  obtain ⟨H2, c1, c2, c3, c4⟩ := c_turns (d := d + 42) I W (Or.inl rfl) L
  have run : M2 (d + 60) 2001 [.ref x] H = some (.inl (some (.int (zI (tuV 0 (T 2) % 10)))), H2) := by
    rw [Y2001 H (rv2 (by rfl) m0), F2001_0]
    simp (disch := first | assumption | omega | decide | exact okF_i | exact okF_r | exact okF_n | exact okF_j | rfl) only [jc_ref, rI_int, rR_ref, rR_null, rJ_long, ckR_ref, ckR_null, ckr_ref, ckr_null, ckW_int, ckW_ref, ckW_null, cI_ok, cR_ok, cR_null, cV_ok, cJ_ok, qH_eq, qD_in, aG_ref, aS_ref, aL_ref, pF_ref, cK_ref, cK_null, zI_lit, zJ_lit, zI_add, zI_sub, zI_mul, zI_neg, zI_eq, zI_lt, zI_le, Int.reduceLT, Int.reduceLE, Int.reduceAdd, Int.reduceSub, Int.reduceMul, Int.reduceNeg, Int.reduceEq, Int.reduceNe, reduceIte, jf_in, pFc_in, aGi, aGb, aSi, aLc_in, cKc_in, nA_in, jm_s1, jm_s2, jm_p1, jm_p2, jm_b, jn_b, jn_s, jn_p, jset_jset, jset_jpush2, ckR_is, ckr_is, rR_is, ckW_is, cR_is, obi2, ckW_int, eq_self, if_true, ref_null, if_false, ne_eq, not_true_eq_false, not_false_eq_true, decide_true, decide_false, decide_not, Bool.true_and, Bool.false_and, Bool.and_true, Bool.and_false, Bool.true_or, Bool.false_or, Bool.or_true, Bool.or_false, Bool.not_true, Bool.not_false, Bool.false_eq_true, bI_t, bI_f, Int.natCast_one, Int.cast_ofNat_Int, Int.natCast_zero, o2_0, o2_1, o2_2, o2_3, o2_4, o2_5, o2_6, o2_7, o2_8, o2_9, o2_10, o2_11, o2_12, o2_13, o2_14, o2_15, o2_16, o2_17, n2, o2s_0, o2s_1, o2s_2, o2s_3, o2s_4, o2s_5, o2s_6, o2s_7, o2s_8, o2s_9, o2s_10, o2s_11, o2s_12, o2s_13, o2s_14, o2s_15, o2s_16, o2s_17, o23_0, o23_1, o23_2, n23, o23s_0, o23s_1, o23s_2, o4_0, o4_1, o4_2, o4_3, o4_4, o4_5, o4_6, n4, o4s_0, o4s_1, o4s_2, o4s_3, o4s_4, o4s_5, o4s_6, o24_0, o24_1, o24_2, o24_3, o26_0, n26, o26s_0, o28_0, o22_0, o22_1, o22_2, o22_3, o22_4, o22_5, o47_0, o47_1, o47_2, o47_3, n47, o47s_0, o47s_1, o47s_2, o47s_3, o3_0, o3_1, o3_2, o3_3, o3_4, o12_0, o12_1, o13_0, o13_1, o13_2, o13_3, o13_4, o13_5, o13_6, o14_0, o14_1, o14_2, o14_3, o14_4, o14_5, o11_0, o11_1, o11_2, o11_3, o5_0, o5_1, o5_2, o5_3, o5_4, o5_5, o6_0, o6_1, o6_2, n6, o6s_0, o6s_1, o6s_2, c1]
  by_cases c : T 2 149 = 1
  · have v : tuV 0 (T 2) = 11 := by unfold tuV; rw [if_pos rfl, if_neg (by omega)]
    rw [v] at run c2
    rw [if_neg (by decide)] at c2
    rw [show beQ T = (1, ts T 0 0 0) by unfold beQ; rw [if_pos c]] at te
    exact ⟨_, H2, _, run, te, c2.tw W2 TwE.s0, W.s0, fun _ R => R.s0, by omega, by omega⟩
  · have c0 : T 2 149 = 0 := by omega
    have v : tuV 0 (T 2) = 0 := by unfold tuV; rw [if_pos rfl, if_pos c0]
    rw [v] at run c2
    rw [if_pos rfl] at c2
    rw [show beQ T = (0, tg (kpQ (ts T 0 0 0)) 2 (bgS (T 2))) by unfold beQ; rw [if_neg c]] at te
    exact ⟨_, H2, _, run, te, c2, W.kp (u := 0) (fun i hi => s0_0 (by omega)) (fun k hk => s0_k (by omega)) W2.bg, fun _ R => R.kp (s0_0 (by decide)) (s0_k (by decide)) (fun i hi => lo i (Or.inl hi)), by omega, by omega⟩
theorem op_back (I : FaceI x H T) (W : TwI T) : OpR d m h x H T 2000 [] 7000 [] (9 + 80 * pvS (T 2)) (38 + 360 * pvS (T 2)) 0 := by
  obtain ⟨-, ⟨W2, -, -⟩, ⟨n0, n8⟩, -⟩ := id W
  obtain ⟨sc, sen, ver, vl, tg', seed, m0, -⟩ := I.ob
  have on := W2.2.2.2.2.2.1
  have te := tm_back (d := d + 9) (m := m) (h := h) (T := T) on n0 n8
  have lo : ∀ i, (i < 148 ∨ 1239 ≤ i) → bkS (T 2) i = T 2 i := fun i hi => by rw [bkS_at, if_neg (by omega), if_neg (by omega), if_neg (by omega), if_neg (by omega)]
  have L : tuV 2 (T 2) = 0 → LvT T (tg (kpQ (ts T 0 0 0)) 2 (bkS (T 2))) (tuS 2 (T 2)) := fun e => by
    have c : T 2 149 = 1 := by unfold tuV at e; rw [if_neg (by decide), if_neg (by decide)] at e; split at e; assumption; omega
    rw [show tuS 2 (T 2) = bkS (T 2) by unfold tuS; rw [if_neg (by decide), if_neg (by decide), if_pos c]]
    exact kp_lv (fun i hi => s0_0 (by omega)) (fun k hk => s0_k (by omega)) n0 n8 lo
  obtain ⟨H2, c1, c2, c3, c4⟩ := c_turns (d := d + 42) I W (Or.inr (Or.inr rfl)) L
  have run : M2 (d + 60) 2000 [.ref x] H = some (.inl (some (.int (zI (tuV 2 (T 2) % 10)))), H2) := by
    rw [Y2000 H (rv2 (by rfl) m0), F2000_0]
    simp (disch := first | assumption | omega | decide | exact okF_i | exact okF_r | exact okF_n | exact okF_j | rfl) only [jc_ref, rI_int, rR_ref, rR_null, rJ_long, ckR_ref, ckR_null, ckr_ref, ckr_null, ckW_int, ckW_ref, ckW_null, cI_ok, cR_ok, cR_null, cV_ok, cJ_ok, qH_eq, qD_in, aG_ref, aS_ref, aL_ref, pF_ref, cK_ref, cK_null, zI_lit, zJ_lit, zI_add, zI_sub, zI_mul, zI_neg, zI_eq, zI_lt, zI_le, Int.reduceLT, Int.reduceLE, Int.reduceAdd, Int.reduceSub, Int.reduceMul, Int.reduceNeg, Int.reduceEq, Int.reduceNe, reduceIte, jf_in, pFc_in, aGi, aGb, aSi, aLc_in, cKc_in, nA_in, jm_s1, jm_s2, jm_p1, jm_p2, jm_b, jn_b, jn_s, jn_p, jset_jset, jset_jpush2, ckR_is, ckr_is, rR_is, ckW_is, cR_is, obi2, ckW_int, eq_self, if_true, ref_null, if_false, ne_eq, not_true_eq_false, not_false_eq_true, decide_true, decide_false, decide_not, Bool.true_and, Bool.false_and, Bool.and_true, Bool.and_false, Bool.true_or, Bool.false_or, Bool.or_true, Bool.or_false, Bool.not_true, Bool.not_false, Bool.false_eq_true, bI_t, bI_f, Int.natCast_one, Int.cast_ofNat_Int, Int.natCast_zero, o2_0, o2_1, o2_2, o2_3, o2_4, o2_5, o2_6, o2_7, o2_8, o2_9, o2_10, o2_11, o2_12, o2_13, o2_14, o2_15, o2_16, o2_17, n2, o2s_0, o2s_1, o2s_2, o2s_3, o2s_4, o2s_5, o2s_6, o2s_7, o2s_8, o2s_9, o2s_10, o2s_11, o2s_12, o2s_13, o2s_14, o2s_15, o2s_16, o2s_17, o23_0, o23_1, o23_2, n23, o23s_0, o23s_1, o23s_2, o4_0, o4_1, o4_2, o4_3, o4_4, o4_5, o4_6, n4, o4s_0, o4s_1, o4s_2, o4s_3, o4s_4, o4s_5, o4s_6, o24_0, o24_1, o24_2, o24_3, o26_0, n26, o26s_0, o28_0, o22_0, o22_1, o22_2, o22_3, o22_4, o22_5, o47_0, o47_1, o47_2, o47_3, n47, o47s_0, o47s_1, o47s_2, o47s_3, o3_0, o3_1, o3_2, o3_3, o3_4, o12_0, o12_1, o13_0, o13_1, o13_2, o13_3, o13_4, o13_5, o13_6, o14_0, o14_1, o14_2, o14_3, o14_4, o14_5, o11_0, o11_1, o11_2, o11_3, o5_0, o5_1, o5_2, o5_3, o5_4, o5_5, o6_0, o6_1, o6_2, n6, o6s_0, o6s_1, o6s_2, c1]
  by_cases c : T 2 149 = 0
  · have v : tuV 2 (T 2) = 31 := by unfold tuV; rw [if_neg (by decide), if_neg (by decide), if_neg (by omega)]
    rw [v] at run c2
    rw [if_neg (by decide)] at c2
    rw [show baQ T = (1, ts T 0 0 0) by unfold baQ; rw [if_pos c]] at te
    exact ⟨_, H2, _, run, te, c2.tw W2 TwE.s0, W.s0, fun _ R => R.s0, by omega, by omega⟩
  · have c0 : T 2 149 = 1 := by omega
    have v : tuV 2 (T 2) = 0 := by unfold tuV; rw [if_neg (by decide), if_neg (by decide), if_pos c0]
    rw [v] at run c2
    rw [if_pos rfl] at c2
    rw [show baQ T = (0, tg (kpQ (ts T 0 0 0)) 2 (bkS (T 2))) by unfold baQ; rw [if_neg c]] at te
    exact ⟨_, H2, _, run, te, c2, W.kp (u := 0) (fun i hi => s0_0 (by omega)) (fun k hk => s0_k (by omega)) W2.bk, fun _ R => R.kp (s0_0 (by decide)) (s0_k (by decide)) (fun i hi => lo i (Or.inl hi)), by omega, by omega⟩
/-- violations as the twin tells them -/
theorem tv_vl {F : Nat → Option Cl} {V : List Vi} (hV : VLF F S2 vl V) (hX : VioT X V) (hl : V.length ≤ 960) : VlI F (tvQ X) vl := by
  have t0 : tvQ X 0 41 = X 0 26 := by rw [tvQ_0, fset_eq]
  have z26 : ts X 0 41 (X 0 26) 0 26 = X 0 26 := by rw [ts_eq, fset_ne (by decide)]
  refine ⟨V, S2, hV, t0.trans hX.1, hl, fun i v hi => ?_⟩
  obtain ⟨a1, a2, a3⟩ := hX.2 i v hi
  have li : i < V.length := (List.getElem?_eq_some_iff.mp hi).1
  have rg : (0 : Int) ≤ i ∧ (i : Int) < X 0 26 := by rw [hX.1]; omega
  refine ⟨?_, ?_, ?_⟩
  · unfold tvQ tvT
    rw [tg_ne (by decide), tg_ne (by decide), tg_eq, z26]
    unfold bl
    rw [if_pos rg, ts_ne (by decide)]; exact a1
  · unfold tvQ tvT
    rw [tg_ne (by decide), tg_eq, z26]
    unfold bl
    rw [if_pos rg, ts_ne (by decide)]; exact a2
  · unfold tvQ tvT
    rw [tg_eq, z26]
    unfold bl
    rw [if_pos rg, ts_ne (by decide)]; exact a3
/-- other violations are told: nothing else -/
theorem face_vl (o : ObI x H T sc sen ver vl tq seed) (h1 : jm H (x + 1) = some (1010, 940, aI (T 1))) (h2 : StG H (x + 16)) (h3 : PlG H (x + 30)) (h4 : FaceQ x H T sc sen ver vl tq) (W : StW (T 2)) (n8 : T 0 44 ≤ 8) {vl2 : Nat} (hH2 : H2 = jset H x (2, 18, o2 (.ref (x + 1)) (T 0 2) (T 0 16) (.ref sc) (.ref (x + 7)) (.ref (x + 16)) (.ref (x + 25)) (.ref (x + 30)) sen (.ref (x + 35)) (T 0 44) ver (.ref vl2) (.ref (x + 37)) (.ref tq) seed (.ref (x + 38)) (.ref (x + 39)))) (hv : VlI (Fz (FcW x) H) T' vl2)
    (e0 : ∀ i : Int, (i = 2 ∨ i = 16 ∨ i = 42 ∨ i = 44 ∨ i = 48 ∨ i = 50 ∨ i = 55) → T' 0 i = T 0 i) (ek : ∀ k, (k = 1 ∨ k = 2 ∨ k = 6 ∨ k = 15 ∨ k = 16 ∨ k = 20 ∨ k = 22 ∨ k = 24 ∨ k = 25 ∨ (29 ≤ k ∧ k ≤ 31)) → T' k = T k) : FaceI x H2 T' := by
  obtain ⟨o', fr, n1, n2⟩ := o.set T' sc sen ver vl2 tq seed H2 (by rw [hH2, e0 2 (by omega), e0 16 (by omega), e0 44 (by omega)]) o.2.2.1 o.2.2.2
  have oH := o.1
  obtain ⟨q1, q2, q3, q4, q5, q6, q7, q8, q9, q10, q11, q12, q13, q15, q16⟩ := h4.fr fr (fun z hz => Or.inl hz) oH n8
  have i20 : ∀ k, imS T' k = imS T k := fun k => by funext i; unfold imS; rw [ek 2 (by omega), ek 20 (by omega)]
  have k29 : ∀ k, kpS T' k = kpS T k := fun k => by funext i; unfold kpS; rw [ek 29 (by omega)]
  have k30 : ∀ k, kpN T' k = kpN T k := fun k => by funext i; unfold kpN; rw [ek 30 (by omega)]
  refine ⟨sc, sen, ver, vl2, tq, seed, o', by rw [ek 1 (by omega)]; exact (fr.2.2 _ (by omega) (by omega)).trans h1, h2.fr fr (fun z hz e => by unfold StP at hz; omega), h3.fr fr (fun z hz e => by unfold PlP at hz; omega), q1, q2, by rw [ek 2 (by omega), ek 6 (by omega)]; exact q3, by rw [ek 2 (by omega)]; exact q4, ?_, by rw [ek 2 (by omega), ek 6 (by omega)]; exact q6, ?_, ?_, hv.sub (bf_sub fr fun z hz => hz ▸ FcW.obj), ?_, ?_, ?_, q13, ?_, ?_⟩
  · unfold PlI; rw [e0 42 (by omega), ek 16 (by omega)]; exact q5
  · unfold BeI; rw [e0 44 (by omega)]; simp only [i20]; exact q7
  · unfold VdI; rw [e0 42 (by omega), ek 15 (by omega)]; exact q8
  · unfold OrI; rw [e0 48 (by omega), ek 22 (by omega)]; exact q10
  · unfold TgI; rw [e0 50 (by omega), ek 24 (by omega)]; exact q11
  · unfold ToI; rw [e0 55 (by omega), ek 25 (by omega)]; exact q12
  · unfold KpI; rw [ek 31 (by omega), k29, k30]; exact q15
  · unfold KpI; rw [ek 31 (by omega), k29, k30]; exact q16
set_option maxRecDepth 8000 in
theorem op_commit (I : FaceI x H T) (W : TwI T) : OpR d m h x H T 2008 [] 7016 [] (20 + 160 * pvS (T 2)) (80 + 720 * pvS (T 2)) 0 := by
  obtain ⟨-, ⟨W2, -, -⟩, ⟨n0, n8⟩, -⟩ := id W
  obtain ⟨sc, sen, ver, vl, tg', seed, o, h1, h2, h3, h4⟩ := id I
  have m0 := o.2.1
  have oH := o.1
  have N := W2.n0
  have p0 : 0 ≤ pvS (T 2) := by unfold pvS; omega
  have on := W2.2.2.2.2.2.1
  have te := tm_commit (d := d + 5) (m := m) (h := h) (T := T) W2 n0 n8
  have l9 := violS_le W2 (late := true)
  obtain ⟨s7, -⟩ : jm H (x + 7) = some (4, 7, o4 (.ref sc) (T 2 148) (T 2 149) (.ref (x + 7 + 1)) (.ref (x + 7 + 3)) (.ref (x + 7 + 5)) (.ref (x + 7 + 7))) ∧ True := by
    obtain ⟨l1, l2, l3, wm, bs, ra, rb, r1, -⟩ := h4.2.2.2.1; exact ⟨r1.1, trivial⟩
  obtain ⟨X, hX⟩ : ∃ X, X = ts (ts T 0 0 0) 0 26 0 := ⟨_, rfl⟩
  have X0 : ∀ i : Int, i ≠ 0 → i ≠ 26 → X 0 i = T 0 i := fun i a b => by rw [hX, ts_eq, fset_ne b, ts_eq, fset_ne a]
  have Xk : ∀ k : Nat, k ≠ 0 → X k = T k := fun k hk => by rw [hX, ts_ne hk, ts_ne hk]
  have X26 : X 0 26 = 0 := by rw [hX, ts_eq, fset_eq]
  -- the list that is told
  have key : ∃ (H1 : AH) (vl2 : Nat) (V : List Vi) (C : Nat → Int → Int), C = (wcQ X).2 ∧ VLF (Fz (FcW x) H1) (T 2) vl2 V ∧ VioT C V ∧ V.length ≤ 960 ∧ Fr H H1 (fun _ => False) ∧ (H1.1 : Int) ≤ H.1 + 8 + 80 * pvS (T 2) ∧ (H1.2.1 : Int) ≤ H.2.1 + 37 + 360 * pvS (T 2) ∧ (∀ i : Int, i ≠ 0 → i ≠ 26 → C 0 i = T 0 i) ∧ (∀ k : Nat, k ≠ 0 → k ≠ 8 → k ≠ 9 → k ≠ 10 → C k = T k) ∧ ∀ (H2 : AH) (r : Rz), H2 = jset H1 x (2, 18, o2 (.ref (x + 1)) (T 0 2) (T 0 16) (.ref sc) (.ref (x + 7)) (.ref (x + 16)) (.ref (x + 25)) (.ref (x + 30)) sen (.ref (x + 35)) (T 0 44) ver (.ref vl2) (.ref (x + 37)) (.ref tg') seed (.ref (x + 38)) (.ref (x + 39))) → zcI (M2 (d + 59) 2052 [.ref x, .int (zI 1)] H2) (fun x7 h8 => some (.inl (some (.int x7)), h8)) () = r → M2 (d + 60) 2008 [.ref x] H = r := by
    by_cases c : T 2 149 = 0
    · obtain ⟨H0, hH0⟩ : ∃ H0, H0 = jpush H (47, 4, o47 0 0 .null .null) := ⟨_, rfl⟩
      have mp : jm H0 H.1 = some (47, 4, o47 0 0 .null .null) := by rw [hH0]; exact jm_p1
      obtain ⟨H1, a1, a2, a3, a4, a5⟩ := ll_new (d := d + 54) mp
      have f0 : Fr H H0 (fun _ => False) := by rw [hH0]; exact Fr.push
      have n00 : H0.1 = H.1 + 1 ∧ H0.2.1 = H.2.1 + 4 := by rw [hH0]; exact ⟨rfl, rfl⟩
      have f1 : Fr H H1 (fun _ => False) := f0.new (a3.mono fun z _ hz => Or.inr (by omega))
      have m1 : jm H1 x = _ := (f1.2.2 x (by omega) fun z => z).trans m0
      obtain ⟨⟨mc, l1⟩, l2, l3, l4, l5, l6⟩ := a2
      refine ⟨H1, H.1, [], X, by unfold wcQ; rw [Xk 2 (by decide), if_pos c], ⟨[], [], mc, Fz_in (by omega) (fun hb => by have := hb.lt; omega) l1, l2, l3, l4, l5, fun i p hp => by simp at hp, rfl, fun i v hv => by simp at hv⟩, ⟨X26, fun i v hv => by simp at hv⟩, by simp, f1, by omega, by omega, X0, fun k k0 _ _ _ => Xk k k0, fun H2 r hH2 hr => ?_⟩
      have e4 : ([4] : List Nat).elem 4 = true := rfl
      rw [c] at s7
      rw [← hr, Y2008 H (rv2 (by rfl) m0), F2008_0]
      simp (disch := first | assumption | omega | decide | exact okF_i | exact okF_r | exact okF_n | exact okF_j | rfl) only [jc_ref, rI_int, rR_ref, rR_null, rJ_long, ckR_ref, ckR_null, ckr_ref, ckr_null, ckW_int, ckW_ref, ckW_null, cI_ok, cR_ok, cR_null, cV_ok, cJ_ok, qH_eq, qD_in, aG_ref, aS_ref, aL_ref, pF_ref, cK_ref, cK_null, zI_lit, zJ_lit, zI_add, zI_sub, zI_mul, zI_neg, zI_eq, zI_lt, zI_le, Int.reduceLT, Int.reduceLE, Int.reduceAdd, Int.reduceSub, Int.reduceMul, Int.reduceNeg, Int.reduceEq, Int.reduceNe, reduceIte, jf_in, pFc_in, aGi, aGb, aSi, aLc_in, cKc_in, nA_in, jm_s1, jm_s2, jm_p1, jm_p2, jm_b, jn_b, jn_s, jn_p, jset_jset, jset_jpush2, ckR_is, ckr_is, rR_is, ckW_is, cR_is, obi2, ckW_int, eq_self, if_true, ref_null, if_false, ne_eq, not_true_eq_false, not_false_eq_true, decide_true, decide_false, decide_not, Bool.true_and, Bool.false_and, Bool.and_true, Bool.and_false, Bool.true_or, Bool.false_or, Bool.or_true, Bool.or_false, Bool.not_true, Bool.not_false, Bool.false_eq_true, bI_t, bI_f, Int.natCast_one, Int.cast_ofNat_Int, Int.natCast_zero, o2_0, o2_1, o2_2, o2_3, o2_4, o2_5, o2_6, o2_7, o2_8, o2_9, o2_10, o2_11, o2_12, o2_13, o2_14, o2_15, o2_16, o2_17, n2, o2s_0, o2s_1, o2s_2, o2s_3, o2s_4, o2s_5, o2s_6, o2s_7, o2s_8, o2s_9, o2s_10, o2s_11, o2s_12, o2s_13, o2s_14, o2s_15, o2s_16, o2s_17, o23_0, o23_1, o23_2, n23, o23s_0, o23s_1, o23s_2, o4_0, o4_1, o4_2, o4_3, o4_4, o4_5, o4_6, n4, o4s_0, o4s_1, o4s_2, o4s_3, o4s_4, o4s_5, o4s_6, o24_0, o24_1, o24_2, o24_3, o26_0, n26, o26s_0, o28_0, o22_0, o22_1, o22_2, o22_3, o22_4, o22_5, o47_0, o47_1, o47_2, o47_3, n47, o47s_0, o47s_1, o47s_2, o47s_3, o3_0, o3_1, o3_2, o3_3, o3_4, o12_0, o12_1, o13_0, o13_1, o13_2, o13_3, o13_4, o13_5, o13_6, o14_0, o14_1, o14_2, o14_3, o14_4, o14_5, o11_0, o11_1, o11_2, o11_3, o5_0, o5_1, o5_2, o5_3, o5_4, o5_5, o6_0, o6_1, o6_2, n6, o6s_0, o6s_1, o6s_2, m0, s7, n47, ← hH0, a1, m1, ← hH2]
      try rfl
    · have c1 : T 2 149 = 1 := by omega
      obtain ⟨H1, ll, v1, v2, v3, v4, v5, v6⟩ := c_viol0b (d := d + 45) W2 h4.2.2.1 h4.2.2.2.1
      have m1 : jm H1 x = _ := (v4.2.2 x (by omega) fun z => z).trans m0
      have sb := v3.f (B := FcW x) fun u hu => by have := hu.lt; omega
      refine ⟨H1, ll, violS (T 2) true, layL (ts X 0 26 0) (violS (T 2) true), by unfold wcQ; rw [Xk 2 (by decide), if_neg c], sb, lay_vio, l9, v4, v5, v6, fun i a b => by rw [layL_0 b, ts_eq, fset_ne b]; exact X0 i a b, fun k k0 k8 k9 k10 => by rw [layL_k ⟨k0, k8, k9, k10⟩, ts_ne k0]; exact Xk k k0, fun H2 r hH2 hr => ?_⟩
      have e4 : ([4] : List Nat).elem 4 = true := rfl
      rw [c1] at s7
      rw [← hr, Y2008 H (rv2 (by rfl) m0), F2008_0]
      simp (disch := first | assumption | omega | decide | exact okF_i | exact okF_r | exact okF_n | exact okF_j | rfl) only [jc_ref, rI_int, rR_ref, rR_null, rJ_long, ckR_ref, ckR_null, ckr_ref, ckr_null, ckW_int, ckW_ref, ckW_null, cI_ok, cR_ok, cR_null, cV_ok, cJ_ok, qH_eq, qD_in, aG_ref, aS_ref, aL_ref, pF_ref, cK_ref, cK_null, zI_lit, zJ_lit, zI_add, zI_sub, zI_mul, zI_neg, zI_eq, zI_lt, zI_le, Int.reduceLT, Int.reduceLE, Int.reduceAdd, Int.reduceSub, Int.reduceMul, Int.reduceNeg, Int.reduceEq, Int.reduceNe, reduceIte, jf_in, pFc_in, aGi, aGb, aSi, aLc_in, cKc_in, nA_in, jm_s1, jm_s2, jm_p1, jm_p2, jm_b, jn_b, jn_s, jn_p, jset_jset, jset_jpush2, ckR_is, ckr_is, rR_is, ckW_is, cR_is, obi2, ckW_int, eq_self, if_true, ref_null, if_false, ne_eq, not_true_eq_false, not_false_eq_true, decide_true, decide_false, decide_not, Bool.true_and, Bool.false_and, Bool.and_true, Bool.and_false, Bool.true_or, Bool.false_or, Bool.or_true, Bool.or_false, Bool.not_true, Bool.not_false, Bool.false_eq_true, bI_t, bI_f, Int.natCast_one, Int.cast_ofNat_Int, Int.natCast_zero, o2_0, o2_1, o2_2, o2_3, o2_4, o2_5, o2_6, o2_7, o2_8, o2_9, o2_10, o2_11, o2_12, o2_13, o2_14, o2_15, o2_16, o2_17, n2, o2s_0, o2s_1, o2s_2, o2s_3, o2s_4, o2s_5, o2s_6, o2s_7, o2s_8, o2s_9, o2s_10, o2s_11, o2s_12, o2s_13, o2s_14, o2s_15, o2s_16, o2s_17, o23_0, o23_1, o23_2, n23, o23s_0, o23s_1, o23s_2, o4_0, o4_1, o4_2, o4_3, o4_4, o4_5, o4_6, n4, o4s_0, o4s_1, o4s_2, o4s_3, o4s_4, o4s_5, o4s_6, o24_0, o24_1, o24_2, o24_3, o26_0, n26, o26s_0, o28_0, o22_0, o22_1, o22_2, o22_3, o22_4, o22_5, o47_0, o47_1, o47_2, o47_3, n47, o47s_0, o47s_1, o47s_2, o47s_3, o3_0, o3_1, o3_2, o3_3, o3_4, o12_0, o12_1, o13_0, o13_1, o13_2, o13_3, o13_4, o13_5, o13_6, o14_0, o14_1, o14_2, o14_3, o14_4, o14_5, o11_0, o11_1, o11_2, o11_3, o5_0, o5_1, o5_2, o5_3, o5_4, o5_5, o6_0, o6_1, o6_2, n6, o6s_0, o6s_1, o6s_2, m0, s7, v1, m1, ← hH2]
      try rfl
  obtain ⟨H1, vl2, V, C, hC, kV, kT, kl, kf, kc, ks, kC0, kCk, krun⟩ := key
  obtain ⟨H2, hH2⟩ : ∃ H2, H2 = jset H1 x (2, 18, o2 (.ref (x + 1)) (T 0 2) (T 0 16) (.ref sc) (.ref (x + 7)) (.ref (x + 16)) (.ref (x + 25)) (.ref (x + 30)) sen (.ref (x + 35)) (T 0 44) ver (.ref vl2) (.ref (x + 37)) (.ref tg') seed (.ref (x + 38)) (.ref (x + 39))) := ⟨_, rfl⟩
  have n2 : H2.1 = H1.1 ∧ H2.2.1 = H1.2.1 := by rw [hH2]; exact ⟨rfl, rfl⟩
  have q0 : ∀ i : Int, i ≠ 0 → i ≠ 26 → i ≠ 41 → tvQ C 0 i = T 0 i := fun i a b c => by rw [tvQ_0, fset_ne c]; exact kC0 i a b
  have qk : ∀ k : Nat, k ≠ 0 → k ≠ 8 → k ≠ 9 → k ≠ 10 → k ≠ 17 → k ≠ 18 → k ≠ 19 → tvQ C k = T k := fun k a b c e f g i => by rw [tvQ_k a f g i]; exact kCk k a b c e
  have I1 : FaceI x H2 (tvQ C) := face_vl (o.fr kf fun z => z) ((kf.2.2 _ (by omega) fun z => z).trans h1) (h2.fr kf fun _ _ z => z) (h3.fr kf fun _ _ z => z) (h4.fr kf (fun z hz => hz.elim) oH n8) W2 n8 hH2 (tv_vl kV kT kl) (fun i hi => q0 i (by omega) (by omega) (by omega)) (fun k hk => qk k (by omega) (by omega) (by omega) (by omega) (by omega) (by omega) (by omega))
  have W1 : TwI (tvQ C) := W.up (fun k hk => qk k (by omega) (by omega) (by omega) (by omega) (by omega) (by omega) (by omega)) (by rw [q0 2 (by decide) (by decide) (by decide)]; exact W.1.2.2.2) (by rw [qk 2 (by decide) (by decide) (by decide) (by decide) (by decide) (by decide) (by decide)]; exact W2) (by rw [q0 35 (by decide) (by decide) (by decide)]; exact W.2.1.2.2) (by rw [q0 44 (by decide) (by decide) (by decide)]; exact ⟨n0, n8⟩) (by rw [q0 42 (by decide) (by decide) (by decide)]; exact W.2.2.2.1)
  have t2 : tvQ C 2 = T 2 := qk 2 (by decide) (by decide) (by decide) (by decide) (by decide) (by decide) (by decide)
  have lo : ∀ i, (i < 148 ∨ 1239 ≤ i) → clS (fset (T 2) 149 0) i = T 2 i := fun i hi => by rw [clS_at, if_neg (by omega), fset_ne (by omega)]
  have L : tuV 1 (tvQ C 2) = 0 → LvT (tvQ C) (tg (kpQ (tvQ C)) 2 (clS (fset (T 2) 149 0))) (tuS 1 (tvQ C 2)) := fun e => by
    rw [t2] at e ⊢
    unfold tuV at e
    rw [if_neg (by decide), if_pos rfl] at e
    have c1 : ¬ T 2 149 = 0 := fun c => by rw [if_pos c] at e; omega
    rw [if_neg c1] at e
    have c2 : violS (T 2) true = [] := by split at e; assumption; omega
    rw [show tuS 1 (T 2) = clS (fset (T 2) 149 0) by unfold tuS; rw [if_neg (by decide), if_pos rfl, if_neg c1, if_pos c2]]
    exact kp_lv (fun _ _ => rfl) (fun _ _ => rfl) W1.2.2.1.1 W1.2.2.1.2 (fun i hi => by rw [t2]; exact lo i hi)
  obtain ⟨H3, r1, r2, r3, r4⟩ := c_turns (d := d + 42) I1 W1 (Or.inr (Or.inl rfl)) L
  rw [t2] at r1 r2 r3 r4
  have run : M2 (d + 60) 2008 [.ref x] H = some (.inl (some (.int (zI (tuV 1 (T 2) % 10)))), H3) := krun H2 _ hH2 (by rw [r1, cI_ok])
  have wX : (wcQ X).1 = if T 2 149 = 0 then 1 else if violS (T 2) true = [] then 0 else 2 := by
    unfold wcQ
    rw [Xk 2 (by decide)]
    split
    · rfl
    · rfl
  have co : coQ T = if (wcQ X).1 = 0 then (0, tg (kpQ (tvQ C)) 2 (clS (fset (T 2) 149 0))) else ((wcQ X).1, tvQ C) := by
    rw [hC, hX]; rfl
  rw [co, wX] at te
  have Rm : ∀ N, RmI N T → RmI N (tvQ C) := fun N R => by
    unfold RmI szS kpS at *
    rw [q0 2 (by decide) (by decide) (by decide), t2, qk 29 (by decide) (by decide) (by decide) (by decide) (by decide) (by decide) (by decide)]
    exact R
  have pt : pvS (tvQ C 2) = pvS (T 2) := by rw [t2]
  by_cases c : T 2 149 = 0
  · have v : tuV 1 (T 2) = 21 := by unfold tuV; rw [if_neg (by decide), if_pos rfl, if_pos c]
    rw [v] at run r2
    rw [if_neg (by decide)] at r2
    rw [if_pos c, if_neg (by decide)] at te
    exact ⟨_, H3, _, run, te, r2, W1, fun N R => by rw [Int.add_zero]; exact Rm N R, by omega, by omega⟩
  · by_cases c2 : violS (T 2) true = []
    · have v : tuV 1 (T 2) = 0 := by unfold tuV; rw [if_neg (by decide), if_pos rfl, if_neg c, if_pos c2]
      rw [v] at run r2
      rw [if_pos rfl] at r2
      rw [if_neg c, if_pos c2, if_pos rfl] at te
      exact ⟨_, H3, _, run, te, r2, W1.kp (u := 0) (fun _ _ => rfl) (fun _ _ => rfl) W2.co0, fun N R => (Rm N R).kp rfl rfl (fun i hi => by rw [t2]; exact lo i (Or.inl hi)), by omega, by omega⟩
    · have v : tuV 1 (T 2) = 22 := by unfold tuV; rw [if_neg (by decide), if_pos rfl, if_neg c, if_neg c2]
      rw [v] at run r2
      rw [if_neg (by decide)] at r2
      rw [if_neg c, if_neg c2, if_neg (by decide)] at te
      exact ⟨_, H3, _, run, te, r2, W1, fun N R => by rw [Int.add_zero]; exact Rm N R, by omega, by omega⟩
end
