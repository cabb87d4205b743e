/-! the face: end, feed, undo, image, restore -/
-- jc_ref, rI_int, rR_ref, rR_null, rJ_long, ckR_ref, ckR_null, ckr_ref, ckr_null, ckW_int, ckW_ref, ckW_null, cI_ok, cR_ok, cR_null, cV_ok, cJ_ok, qH_eq, qD_in, aG_ref, aS_ref, aL_ref, pF_ref, cK_ref, cK_null, zI_lit, zJ_lit, zI_add, zI_sub, zI_mul, zI_neg, zI_eq, zI_lt, zI_le, Int.reduceLT, Int.reduceLE, Int.reduceAdd, Int.reduceSub, Int.reduceMul, Int.reduceNeg, Int.reduceEq, Int.reduceNe, reduceIte, jf_in, pFc_in, aGi, aGb, aSi, aLc_in, cKc_in, nA_in, jm_s1, jm_s2, jm_p1, jm_p2, jm_b, jn_b, jn_s, jn_p, jset_jset, jset_jpush2, ckR_is, ckr_is, rR_is, ckW_is, cR_is, obi2, ckW_int, eq_self, if_true, ref_null, if_false, ne_eq, not_true_eq_false, not_false_eq_true, decide_true, decide_false, decide_not, Bool.true_and, Bool.false_and, Bool.and_true, Bool.and_false, Bool.true_or, Bool.false_or, Bool.or_true, Bool.or_false, Bool.not_true, Bool.not_false, Bool.false_eq_true, bI_t, bI_f, Int.natCast_one, Int.cast_ofNat_Int, Int.natCast_zero, o2_0, o2_1, o2_2, o2_3, o2_4, o2_5, o2_6, o2_7, o2_8, o2_9, o2_10, o2_11, o2_12, o2_13, o2_14, o2_15, o2_16, o2_17, n2, o2s_0, o2s_1, o2s_2, o2s_3, o2s_4, o2s_5, o2s_6, o2s_7, o2s_8, o2s_9, o2s_10, o2s_11, o2s_12, o2s_13, o2s_14, o2s_15, o2s_16, o2s_17, o23_0, o23_1, o23_2, n23, o23s_0, o23s_1, o23s_2, o4_0, o4_1, o4_2, o4_3, o4_4, o4_5, o4_6, n4, o4s_0, o4s_1, o4s_2, o4s_3, o4s_4, o4s_5, o4s_6, o24_0, o24_1, o24_2, o24_3, o26_0, o28_0, o22_0, o22_1, o22_2, o22_3, o22_4, o22_5, o47_0, o47_1, o47_2, o47_3, n47, o47s_0, o47s_1, o47s_2, o47s_3, o3_0, o3_1, o3_2, o3_3, o3_4, o12_0, o12_1, o13_0, o13_1, o13_2, o13_3, o13_4, o13_5, o13_6, o14_0, o14_1, o14_2, o14_3, o14_4, o14_5, o11_0, o11_1, o11_2, o11_3, o5_0, o5_1, o5_2, o5_3, o5_4, o5_5, o6_0, o6_1, o6_2, n6, o6s_0, o6s_1, o6s_2 = jc_ref, rI_int, rR_ref, rR_null, rJ_long, ckR_ref, ckR_null, ckr_ref, ckr_null, ckW_int, ckW_ref, ckW_null, cI_ok, cR_ok, cR_null, cV_ok, cJ_ok, qH_eq, qD_in, aG_ref, aS_ref, aL_ref, pF_ref, cK_ref, cK_null, zI_lit, zJ_lit, zI_add, zI_sub, zI_mul, zI_neg, zI_eq, zI_lt, zI_le, Int.reduceLT, Int.reduceLE, Int.reduceAdd, Int.reduceSub, Int.reduceMul, Int.reduceNeg, Int.reduceEq, Int.reduceNe, reduceIte, jf_in, pFc_in, aGi, aGb, aSi, aLc_in, cKc_in, nA_in, jm_s1, jm_s2, jm_p1, jm_p2, jm_b, jn_b, jn_s, jn_p, jset_jset, jset_jpush2, ckR_is, ckr_is, rR_is, ckW_is, cR_is, obi2, ckW_int, eq_self, if_true, ref_null, if_false, ne_eq, not_true_eq_false, not_false_eq_true, decide_true, decide_false, decide_not, Bool.true_and, Bool.false_and, Bool.and_true, Bool.and_false, Bool.true_or, Bool.false_or, Bool.or_true, Bool.or_false, Bool.not_true, Bool.not_false, Bool.false_eq_true, bI_t, bI_f, Int.natCast_one, Int.cast_ofNat_Int, Int.natCast_zero, o2_0, o2_1, o2_2, o2_3, o2_4, o2_5, o2_6, o2_7, o2_8, o2_9, o2_10, o2_11, o2_12, o2_13, o2_14, o2_15, o2_16, o2_17, n2, o2s_0, o2s_1, o2s_2, o2s_3, o2s_4, o2s_5, o2s_6, o2s_7, o2s_8, o2s_9, o2s_10, o2s_11, o2s_12, o2s_13, o2s_14, o2s_15, o2s_16, o2s_17, o23_0, o23_1, o23_2, n23, o23s_0, o23s_1, o23s_2, o4_0, o4_1, o4_2, o4_3, o4_4, o4_5, o4_6, n4, o4s_0, o4s_1, o4s_2, o4s_3, o4s_4, o4s_5, o4s_6, o24_0, o24_1, o24_2, o24_3, o26_0, o28_0, o22_0, o22_1, o22_2, o22_3, o22_4, o22_5, o47_0, o47_1, o47_2, o47_3, n47, o47s_0, o47s_1, o47s_2, o47s_3, o3_0, o3_1, o3_2, o3_3, o3_4, o12_0, o12_1, o13_0, o13_1, o13_2, o13_3, o13_4, o13_5, o13_6, o14_0, o14_1, o14_2, o14_3, o14_4, o14_5, o11_0, o11_1, o11_2, o11_3, o5_0, o5_1, o5_2, o5_3, o5_4, o5_5, o6_0, o6_1, o6_2, n6, o6s_0, o6s_1, o6s_2
section
variable {d m : Nat} {h H H2 : AH} {x : Nat} {T T' : Nat → Int → Int} {n w r k t f : Int} {P : Nat → Prop} {sc vl tq : Nat} {sen ver : Value} {seed : Int}
/-- the object's cell is written -/
theorem ObI.set (o : ObI x H T sc sen ver vl tq seed) : ∀ (T' : Nat → Int → Int) (sc' : Nat) (sen' ver' : Value) (vl' tg' : Nat) (seed' : Int) (H2 : AH), H2 = jset H x (2, 18, o2 (.ref (x + 1)) (T' 0 2) (T' 0 16) (.ref sc') (.ref (x + 7)) (.ref (x + 16)) (.ref (x + 25)) (.ref (x + 30)) sen' (.ref (x + 35)) (T' 0 44) ver' (.ref vl') (.ref (x + 37)) (.ref tg') seed' (.ref (x + 38)) (.ref (x + 39))) → isR sen' = true → isR ver' = true → ObI x H2 T' sc' sen' ver' vl' tg' seed' ∧ Fr H H2 (fun z => z = x) ∧ H2.1 = H.1 ∧ H2.2.1 = H.2.1 := by
  intro T' sc' sen' ver' vl' tg' seed' H2 e r1 r2
  rw [e]
  exact ⟨⟨o.1, jm_s1, r1, r2⟩, Fr.set rfl, rfl, rfl⟩
theorem ObI.fr (o : ObI x H T sc sen ver vl tq seed) (fr : Fr H H2 P) (hp : ¬ P x) : ObI x H2 T sc sen ver vl tq seed := ⟨Nat.le_trans o.1 fr.1, (fr.2.2 _ (by have := o.1; omega) hp).trans o.2.1, o.2.2⟩
theorem ObI.cg (o : ObI x H T sc sen ver vl tq seed) (e2 : T' 0 2 = T 0 2) (e16 : T' 0 16 = T 0 16) (e44 : T' 0 44 = T 0 44) : ObI x H T' sc sen ver vl tq seed := by
  unfold ObI; rw [e2, e16, e44]; exact o
theorem TwI.up (W : TwI T) (e : ∀ k, (k = 1 ∨ k = 6 ∨ k = 7 ∨ k = 12 ∨ k = 16 ∨ k = 30 ∨ k = 31) → T' k = T k) (h2 : 0 ≤ T' 0 2 ∧ T' 0 2 ≤ 940) (S2 : StW (T' 2)) (h35 : T' 0 35 = 0 ∨ T' 0 35 = 1) (h44 : 0 ≤ T' 0 44 ∧ T' 0 44 ≤ 8) (h42 : T' 0 42 = 0 ∨ T' 0 42 = 1) : TwI T' := by
  obtain ⟨⟨u1, u2, u3, u4, u5⟩, ⟨b1, b2, b3⟩, v3, v4, v5, v6, v7⟩ := W
  exact ⟨⟨by rw [e 1 (by omega)]; exact u1, fun k hk => by rw [e 7 (by omega)]; exact u2 k hk, fun i => by rw [e 6 (by omega)]; exact u3 i, h2⟩, ⟨S2, by rw [e 12 (by omega)]; exact b2, h35⟩, h44, h42, by rw [e 16 (by omega)]; exact v5, by rw [e 30 (by omega)]; exact v6, by rw [e 31 (by omega)]; exact v7⟩
theorem op_end (I : FaceI x H T) (W : TwI T) (hn : Rg n) : OpR d m h x H T 2015 [.int (zI n)] 7025 [.int (zI n)] 0 0 0 := by
  obtain ⟨sc, sen, ver, vl, tq, seed, o, h1, h2, h3, h4⟩ := I
  obtain ⟨⟨c1, c2, c3, c4, c5⟩, w2, w3⟩ := id W
  have m0 := o.2.1
  obtain ⟨n1, n2⟩ := id hn
  have te := tm_end (d := d + 11) (m := m) (h := h) (T := T) hn c4 c5
  have Ws := W.s0 (v := 0)
  by_cases c : n < 0 ∨ T 0 2 < n
  · rw [if_pos c, if_pos c] at te
    have e : ts (ts T 0 0 0) 0 2 (T 0 2) = ts T 0 0 0 := by
      unfold ts
      rw [tg_eq, tg_tg]
      congr 1
      funext i
      unfold fset
      by_cases i2 : i = 2
      · subst i2; simp
      · simp [i2]
    rw [e] at te
    refine OpR.p ⟨sc, sen, ver, vl, tq, seed, o, h1, h2, h3, h4⟩ W ?_ te
    rw [Y2015 H (rv2 (by rfl) m0), F2015_0]
    by_cases a : n < 0
    · simp (disch := first | assumption | omega | decide | exact okF_i | exact okF_r | exact okF_n | exact okF_j | rfl) only [jc_ref, rI_int, rR_ref, rR_null, rJ_long, ckR_ref, ckR_null, ckr_ref, ckr_null, ckW_int, ckW_ref, ckW_null, cI_ok, cR_ok, cR_null, cV_ok, cJ_ok, qH_eq, qD_in, aG_ref, aS_ref, aL_ref, pF_ref, cK_ref, cK_null, zI_lit, zJ_lit, zI_add, zI_sub, zI_mul, zI_neg, zI_eq, zI_lt, zI_le, Int.reduceLT, Int.reduceLE, Int.reduceAdd, Int.reduceSub, Int.reduceMul, Int.reduceNeg, Int.reduceEq, Int.reduceNe, reduceIte, jf_in, pFc_in, aGi, aGb, aSi, aLc_in, cKc_in, nA_in, jm_s1, jm_s2, jm_p1, jm_p2, jm_b, jn_b, jn_s, jn_p, jset_jset, jset_jpush2, ckR_is, ckr_is, rR_is, ckW_is, cR_is, obi2, ckW_int, eq_self, if_true, ref_null, if_false, ne_eq, not_true_eq_false, not_false_eq_true, decide_true, decide_false, decide_not, Bool.true_and, Bool.false_and, Bool.and_true, Bool.and_false, Bool.true_or, Bool.false_or, Bool.or_true, Bool.or_false, Bool.not_true, Bool.not_false, Bool.false_eq_true, bI_t, bI_f, Int.natCast_one, Int.cast_ofNat_Int, Int.natCast_zero, o2_0, o2_1, o2_2, o2_3, o2_4, o2_5, o2_6, o2_7, o2_8, o2_9, o2_10, o2_11, o2_12, o2_13, o2_14, o2_15, o2_16, o2_17, n2, o2s_0, o2s_1, o2s_2, o2s_3, o2s_4, o2s_5, o2s_6, o2s_7, o2s_8, o2s_9, o2s_10, o2s_11, o2s_12, o2s_13, o2s_14, o2s_15, o2s_16, o2s_17, o23_0, o23_1, o23_2, n23, o23s_0, o23s_1, o23s_2, o4_0, o4_1, o4_2, o4_3, o4_4, o4_5, o4_6, n4, o4s_0, o4s_1, o4s_2, o4s_3, o4s_4, o4s_5, o4s_6, o24_0, o24_1, o24_2, o24_3, o26_0, o28_0, o22_0, o22_1, o22_2, o22_3, o22_4, o22_5, o47_0, o47_1, o47_2, o47_3, n47, o47s_0, o47s_1, o47s_2, o47s_3, o3_0, o3_1, o3_2, o3_3, o3_4, o12_0, o12_1, o13_0, o13_1, o13_2, o13_3, o13_4, o13_5, o13_6, o14_0, o14_1, o14_2, o14_3, o14_4, o14_5, o11_0, o11_1, o11_2, o11_3, o5_0, o5_1, o5_2, o5_3, o5_4, o5_5, o6_0, o6_1, o6_2, n6, o6s_0, o6s_1, o6s_2, a]
      try rfl
    · have b : ¬ n ≤ T 0 2 := by omega
      simp (disch := first | assumption | omega | decide | exact okF_i | exact okF_r | exact okF_n | exact okF_j | rfl) only [jc_ref, rI_int, rR_ref, rR_null, rJ_long, ckR_ref, ckR_null, ckr_ref, ckr_null, ckW_int, ckW_ref, ckW_null, cI_ok, cR_ok, cR_null, cV_ok, cJ_ok, qH_eq, qD_in, aG_ref, aS_ref, aL_ref, pF_ref, cK_ref, cK_null, zI_lit, zJ_lit, zI_add, zI_sub, zI_mul, zI_neg, zI_eq, zI_lt, zI_le, Int.reduceLT, Int.reduceLE, Int.reduceAdd, Int.reduceSub, Int.reduceMul, Int.reduceNeg, Int.reduceEq, Int.reduceNe, reduceIte, jf_in, pFc_in, aGi, aGb, aSi, aLc_in, cKc_in, nA_in, jm_s1, jm_s2, jm_p1, jm_p2, jm_b, jn_b, jn_s, jn_p, jset_jset, jset_jpush2, ckR_is, ckr_is, rR_is, ckW_is, cR_is, obi2, ckW_int, eq_self, if_true, ref_null, if_false, ne_eq, not_true_eq_false, not_false_eq_true, decide_true, decide_false, decide_not, Bool.true_and, Bool.false_and, Bool.and_true, Bool.and_false, Bool.true_or, Bool.false_or, Bool.or_true, Bool.or_false, Bool.not_true, Bool.not_false, Bool.false_eq_true, bI_t, bI_f, Int.natCast_one, Int.cast_ofNat_Int, Int.natCast_zero, o2_0, o2_1, o2_2, o2_3, o2_4, o2_5, o2_6, o2_7, o2_8, o2_9, o2_10, o2_11, o2_12, o2_13, o2_14, o2_15, o2_16, o2_17, n2, o2s_0, o2s_1, o2s_2, o2s_3, o2s_4, o2s_5, o2s_6, o2s_7, o2s_8, o2s_9, o2s_10, o2s_11, o2s_12, o2s_13, o2s_14, o2s_15, o2s_16, o2s_17, o23_0, o23_1, o23_2, n23, o23s_0, o23s_1, o23s_2, o4_0, o4_1, o4_2, o4_3, o4_4, o4_5, o4_6, n4, o4s_0, o4s_1, o4s_2, o4s_3, o4s_4, o4s_5, o4s_6, o24_0, o24_1, o24_2, o24_3, o26_0, o28_0, o22_0, o22_1, o22_2, o22_3, o22_4, o22_5, o47_0, o47_1, o47_2, o47_3, n47, o47s_0, o47s_1, o47s_2, o47s_3, o3_0, o3_1, o3_2, o3_3, o3_4, o12_0, o12_1, o13_0, o13_1, o13_2, o13_3, o13_4, o13_5, o13_6, o14_0, o14_1, o14_2, o14_3, o14_4, o14_5, o11_0, o11_1, o11_2, o11_3, o5_0, o5_1, o5_2, o5_3, o5_4, o5_5, o6_0, o6_1, o6_2, n6, o6s_0, o6s_1, o6s_2, a, m0, b]
      try rfl
  · rw [if_neg c, if_neg c] at te
    have a : ¬ n < 0 := by omega
    have b : n ≤ T 0 2 := by omega
    obtain ⟨H2, hH2⟩ : ∃ H2, H2 = jset H x (2, 18, o2 (.ref (x + 1)) n (T 0 16) (.ref sc) (.ref (x + 7)) (.ref (x + 16)) (.ref (x + 25)) (.ref (x + 30)) sen (.ref (x + 35)) (T 0 44) ver (.ref vl) (.ref (x + 37)) (.ref tq) seed (.ref (x + 38)) (.ref (x + 39))) := ⟨_, rfl⟩
    have t2 : ts (ts T 0 0 0) 0 2 n 0 2 = n := by rw [ts_eq, fset_eq]
    have tz : ∀ i : Int, i ≠ 0 → i ≠ 2 → ts (ts T 0 0 0) 0 2 n 0 i = T 0 i := fun i i0 i2 => by rw [ts_eq, fset_ne i2, ts_eq, fset_ne i0]
    have tk : ∀ k : Nat, k ≠ 0 → ts (ts T 0 0 0) 0 2 n k = T k := fun k hk => by rw [ts_ne hk, ts_ne hk]
    obtain ⟨o', fr, n1', n2'⟩ := o.set (ts (ts T 0 0 0) 0 2 n) sc sen ver vl tq seed H2 (by rw [hH2, t2, tz 16 (by decide) (by decide), tz 44 (by decide) (by decide)]) o.2.2.1 o.2.2.2
    refine ⟨zI 1, H2, _, ?_, te, ⟨sc, sen, ver, vl, tq, seed, o', ?_, h2.fr fr (fun z hz e => by unfold StP at hz; omega), h3.fr fr (fun z hz e => by unfold PlP at hz; omega), ?_⟩, ?_, ?_, by omega, by omega⟩
    · rw [Y2015 H (rv2 (by rfl) m0), F2015_0]
      simp (disch := first | assumption | omega | decide | exact okF_i | exact okF_r | exact okF_n | exact okF_j | rfl) only [jc_ref, rI_int, rR_ref, rR_null, rJ_long, ckR_ref, ckR_null, ckr_ref, ckr_null, ckW_int, ckW_ref, ckW_null, cI_ok, cR_ok, cR_null, cV_ok, cJ_ok, qH_eq, qD_in, aG_ref, aS_ref, aL_ref, pF_ref, cK_ref, cK_null, zI_lit, zJ_lit, zI_add, zI_sub, zI_mul, zI_neg, zI_eq, zI_lt, zI_le, Int.reduceLT, Int.reduceLE, Int.reduceAdd, Int.reduceSub, Int.reduceMul, Int.reduceNeg, Int.reduceEq, Int.reduceNe, reduceIte, jf_in, pFc_in, aGi, aGb, aSi, aLc_in, cKc_in, nA_in, jm_s1, jm_s2, jm_p1, jm_p2, jm_b, jn_b, jn_s, jn_p, jset_jset, jset_jpush2, ckR_is, ckr_is, rR_is, ckW_is, cR_is, obi2, ckW_int, eq_self, if_true, ref_null, if_false, ne_eq, not_true_eq_false, not_false_eq_true, decide_true, decide_false, decide_not, Bool.true_and, Bool.false_and, Bool.and_true, Bool.and_false, Bool.true_or, Bool.false_or, Bool.or_true, Bool.or_false, Bool.not_true, Bool.not_false, Bool.false_eq_true, bI_t, bI_f, Int.natCast_one, Int.cast_ofNat_Int, Int.natCast_zero, o2_0, o2_1, o2_2, o2_3, o2_4, o2_5, o2_6, o2_7, o2_8, o2_9, o2_10, o2_11, o2_12, o2_13, o2_14, o2_15, o2_16, o2_17, n2, o2s_0, o2s_1, o2s_2, o2s_3, o2s_4, o2s_5, o2s_6, o2s_7, o2s_8, o2s_9, o2s_10, o2s_11, o2s_12, o2s_13, o2s_14, o2s_15, o2s_16, o2s_17, o23_0, o23_1, o23_2, n23, o23s_0, o23s_1, o23s_2, o4_0, o4_1, o4_2, o4_3, o4_4, o4_5, o4_6, n4, o4s_0, o4s_1, o4s_2, o4s_3, o4s_4, o4s_5, o4s_6, o24_0, o24_1, o24_2, o24_3, o26_0, o28_0, o22_0, o22_1, o22_2, o22_3, o22_4, o22_5, o47_0, o47_1, o47_2, o47_3, n47, o47s_0, o47s_1, o47s_2, o47s_3, o3_0, o3_1, o3_2, o3_3, o3_4, o12_0, o12_1, o13_0, o13_1, o13_2, o13_3, o13_4, o13_5, o13_6, o14_0, o14_1, o14_2, o14_3, o14_4, o14_5, o11_0, o11_1, o11_2, o11_3, o5_0, o5_1, o5_2, o5_3, o5_4, o5_5, o6_0, o6_1, o6_2, n6, o6s_0, o6s_1, o6s_2, a, m0, b, ← hH2]
      try rfl
    · rw [tk 1 (by decide)]; exact (fr.2.2 _ (by have := o.1; omega) (by omega)).trans h1
    · refine FaceQ.p.mpr ?_
      obtain ⟨p1, p2, p3⟩ := FaceQ.p.mp (h4.fr fr (fun z hz => Or.inl hz) o.1 w3.1.2)
      refine ⟨p1.tw W.2.1.1 ⟨fun k hk => tk k (by omega), fun i hi => tz i (by omega) (by omega), fun i hi => by rw [tk 2 (by decide)], fun i _ _ => by rw [tk 6 (by decide)]⟩, by rw [tk 2 (by decide)]; exact p2, ?_⟩
      unfold BeI
      have i20 : ∀ k, imS (ts (ts T 0 0 0) 0 2 n) k = imS T k := fun k => by funext i; unfold imS; rw [tk 2 (by decide), tk 20 (by decide)]
      rw [tz 44 (by decide) (by decide)]
      simp only [i20]
      exact p3
    · exact W.up (fun k hk => tk k (by omega)) (by rw [t2]; omega) (by rw [tk 2 (by decide)]; exact W.2.1.1) (by rw [tz 35 (by decide) (by decide)]; exact W.2.1.2.2) (by rw [tz 44 (by decide) (by decide)]; exact w3.1) (by rw [tz 42 (by decide) (by decide)]; exact w3.2.1)
    · intro N R
      unfold RmI kpS at *
      rw [t2, tk 2 (by decide), tk 29 (by decide), Int.add_zero]
      exact ⟨by omega, R.2⟩
theorem BeI.cg (h : BeI x H T sc) (e : ∀ i, i < 148 → T' 2 i = T 2 i) (e20 : T' 20 = T 20) (e44 : T' 0 44 ≤ T 0 44) : BeI x H T' sc := by
  obtain ⟨fb, bp, a1, a2, a3, a4, a5⟩ := h
  refine ⟨fb, bp, a1, a2, a3, a4, fun k hk => ?_⟩
  have i20 : imS T' k = imS T k := by
    funext i
    unfold imS
    rw [e20]
    split
    · rename_i hi; exact e i hi
    · rfl
  rw [i20]
  exact a5 k (by omega)
set_option maxRecDepth 8000 in
theorem op_undo (I : FaceI x H T) (W : TwI T) : OpR d m h x H T 2053 [] 7132 [] 0 0 0 := by
  obtain ⟨sc, sen, ver, vl, tq, seed, o, h1, h2, h3, h4⟩ := id I
  obtain ⟨-, w2, ⟨n0, n8⟩, w4, -⟩ := id W
  have m0 := o.2.1
  have oH := o.1
  have te := tm_undo (d := d + 11) (m := m) (h := h) (T := T) n0 n8
  by_cases c : T 0 44 = 0
  · rw [if_pos c] at te
    refine OpR.p I W ?_ te
    rw [Y2053 H (rv2 (by rfl) m0), F2053_0]
    simp (disch := first | assumption | omega | decide | exact okF_i | exact okF_r | exact okF_n | exact okF_j | rfl) only [jc_ref, rI_int, rR_ref, rR_null, rJ_long, ckR_ref, ckR_null, ckr_ref, ckr_null, ckW_int, ckW_ref, ckW_null, cI_ok, cR_ok, cR_null, cV_ok, cJ_ok, qH_eq, qD_in, aG_ref, aS_ref, aL_ref, pF_ref, cK_ref, cK_null, zI_lit, zJ_lit, zI_add, zI_sub, zI_mul, zI_neg, zI_eq, zI_lt, zI_le, Int.reduceLT, Int.reduceLE, Int.reduceAdd, Int.reduceSub, Int.reduceMul, Int.reduceNeg, Int.reduceEq, Int.reduceNe, reduceIte, jf_in, pFc_in, aGi, aGb, aSi, aLc_in, cKc_in, nA_in, jm_s1, jm_s2, jm_p1, jm_p2, jm_b, jn_b, jn_s, jn_p, jset_jset, jset_jpush2, ckR_is, ckr_is, rR_is, ckW_is, cR_is, obi2, ckW_int, eq_self, if_true, ref_null, if_false, ne_eq, not_true_eq_false, not_false_eq_true, decide_true, decide_false, decide_not, Bool.true_and, Bool.false_and, Bool.and_true, Bool.and_false, Bool.true_or, Bool.false_or, Bool.or_true, Bool.or_false, Bool.not_true, Bool.not_false, Bool.false_eq_true, bI_t, bI_f, Int.natCast_one, Int.cast_ofNat_Int, Int.natCast_zero, o2_0, o2_1, o2_2, o2_3, o2_4, o2_5, o2_6, o2_7, o2_8, o2_9, o2_10, o2_11, o2_12, o2_13, o2_14, o2_15, o2_16, o2_17, n2, o2s_0, o2s_1, o2s_2, o2s_3, o2s_4, o2s_5, o2s_6, o2s_7, o2s_8, o2s_9, o2s_10, o2s_11, o2s_12, o2s_13, o2s_14, o2s_15, o2s_16, o2s_17, o23_0, o23_1, o23_2, n23, o23s_0, o23s_1, o23s_2, o4_0, o4_1, o4_2, o4_3, o4_4, o4_5, o4_6, n4, o4s_0, o4s_1, o4s_2, o4s_3, o4s_4, o4s_5, o4s_6, o24_0, o24_1, o24_2, o24_3, o26_0, o28_0, o22_0, o22_1, o22_2, o22_3, o22_4, o22_5, o47_0, o47_1, o47_2, o47_3, n47, o47s_0, o47s_1, o47s_2, o47s_3, o3_0, o3_1, o3_2, o3_3, o3_4, o12_0, o12_1, o13_0, o13_1, o13_2, o13_3, o13_4, o13_5, o13_6, o14_0, o14_1, o14_2, o14_3, o14_4, o14_5, o11_0, o11_1, o11_2, o11_3, o5_0, o5_1, o5_2, o5_3, o5_4, o5_5, o6_0, o6_1, o6_2, n6, o6s_0, o6s_1, o6s_2, m0, c]
    try rfl
  · rw [if_neg c] at te
    obtain ⟨T', hT'⟩ : ∃ T', T' = tg (ts (ts T 0 0 0) 0 44 (T 0 44 - 1)) 2 (bl 148 1239 (fun x => T 20 (1091 * (T 0 44 - 1) + (x - 148))) (T 2)) := ⟨_, rfl⟩
    rw [← hT'] at te
    have tk : ∀ k : Nat, k ≠ 0 → k ≠ 2 → T' k = T k := fun k h0 h2 => by rw [hT', tg_ne h2, ts_ne h0, ts_ne h0]
    have t44 : T' 0 44 = T 0 44 - 1 := by rw [hT', tg_ne (by decide), ts_eq, fset_eq]
    have tz : ∀ i : Int, i ≠ 0 → i ≠ 44 → T' 0 i = T 0 i := fun i i0 i4 => by rw [hT', tg_ne (by decide), ts_eq, fset_ne i4, ts_eq, fset_ne i0]
    have t2 : ∀ i, (i < 148 ∨ 1239 ≤ i) → T' 2 i = T 2 i := fun i hi => by rw [hT', tg_eq]; unfold bl; rw [if_neg (by omega)]
    obtain ⟨P1, P2, P3⟩ := FaceQ.p.mp h4
    obtain ⟨fb, bp, a1, a2, a3, a4, a5⟩ := id P3
    have kk : (((T 0 44 - 1).toNat : Nat) : Int) = T 0 44 - 1 := by omega
    obtain ⟨b1, b2⟩ := a5 (T 0 44 - 1).toNat (by omega)
    obtain ⟨a21, a22⟩ := a2 (T 0 44 - 1).toNat (by omega)
    rw [kk] at b1 b2
    have t2' : ∀ i, i < 1239 → T' 2 i = imS T (T 0 44 - 1) i := fun i hi => by
      unfold imS
      by_cases c : i < 148
      · rw [if_pos c]; exact t2 i (Or.inl c)
      · rw [if_neg c, hT', tg_eq]; unfold bl; rw [if_pos (by omega)]
    have W2 : StW (T' 2) := b2.cgs fun i i1 => t2' i i1
    obtain ⟨H1, hH1⟩ : ∃ H1, H1 = jset H x (2, 18, o2 (.ref (x + 1)) (T 0 2) (T 0 16) (.ref sc) (.ref (x + 7)) (.ref (x + 16)) (.ref (x + 25)) (.ref (x + 30)) sen (.ref (x + 35)) (T 0 44 - 1) ver (.ref vl) (.ref (x + 37)) (.ref tq) seed (.ref (x + 38)) (.ref (x + 39))) := ⟨_, rfl⟩
    obtain ⟨o1, fr1, c1, c2⟩ := o.set T' sc sen ver vl tq seed H1 (by rw [hH1, tz 2 (by decide) (by decide), tz 16 (by decide) (by decide), t44]) o.2.2.1 o.2.2.2
    have hnow : ∀ z, StP (x + 7) z → FcW x z := fun z hz => FcW.now hz
    have g1 : StG H1 (x + 7) := P2.g.fr fr1 fun z hz e => by unfold StP at hz; omega
    have b1' : StR (FcW x) H1 (x + 60 + 9 * bp (T 0 44 - 1).toNat) sc (imS T (T 0 44 - 1)) := b1.fr fr1 (fun z hz e => by unfold StP at hz; omega) (fun z _ e => e ▸ FcW.obj)
    obtain ⟨H2, e1, e2, e3, e4, e5⟩ := st_as (d := d + 56) hnow g1 b1' b2 (by omega)
    have F2 : Fr H H2 (fun z => z = x ∨ StP (x + 7) z) := (fr1.mono fun _ _ z => Or.inl z).tr (e3.mono fun _ _ z => Or.inr z)
    have hP : ∀ z, (z = x ∨ StP (x + 7) z) → FcW x z := fun z hz => hz.elim (fun e => e ▸ FcW.obj) (hnow z)
    have far : ∀ z, (z = x ∨ StP (x + 7) z) → z = x ∨ (x + 7 ≤ z ∧ z ≤ x + 14) := fun z hz => by unfold StP at hz; omega
    refine ⟨zI (T 0 44 - 1), H2, T', ?_, te, ⟨sc, sen, ver, vl, tq, seed, o1.fr e3 (fun z => by unfold StP at z; omega), ?_, h2.fr F2 (fun z hz e => by have := far z e; unfold StP at hz; omega), h3.fr F2 (fun z hz e => by have := far z e; unfold PlP at hz; omega), FaceQ.p.mpr ⟨?_, ?_, ?_⟩⟩, ?_, ?_, by omega, by omega⟩
    · have m1 := o1.2.1
      have f1 : jm H1 (x + 35) = some (1050, 8, fb) := (fr1.2.2 _ (by omega) (by omega)).trans a1
      rw [tz 2 (by decide) (by decide), tz 16 (by decide) (by decide), t44] at m1
      have m2 := (o1.fr e3 (fun z => by unfold StP at z; omega)).2.1
      rw [tz 2 (by decide) (by decide), tz 16 (by decide) (by decide), t44] at m2
      have f2 : fb (T 0 44 - 1).toNat = .ref (x + 60 + 9 * bp (T 0 44 - 1).toNat) := a22
      rw [Y2053 H (rv2 (by rfl) m0), F2053_0]
      simp (disch := first | assumption | omega | decide | exact okF_i | exact okF_r | exact okF_n | exact okF_j | rfl) only [jc_ref, rI_int, rR_ref, rR_null, rJ_long, ckR_ref, ckR_null, ckr_ref, ckr_null, ckW_int, ckW_ref, ckW_null, cI_ok, cR_ok, cR_null, cV_ok, cJ_ok, qH_eq, qD_in, aG_ref, aS_ref, aL_ref, pF_ref, cK_ref, cK_null, zI_lit, zJ_lit, zI_add, zI_sub, zI_mul, zI_neg, zI_eq, zI_lt, zI_le, Int.reduceLT, Int.reduceLE, Int.reduceAdd, Int.reduceSub, Int.reduceMul, Int.reduceNeg, Int.reduceEq, Int.reduceNe, reduceIte, jf_in, pFc_in, aGi, aGb, aSi, aLc_in, cKc_in, nA_in, jm_s1, jm_s2, jm_p1, jm_p2, jm_b, jn_b, jn_s, jn_p, jset_jset, jset_jpush2, ckR_is, ckr_is, rR_is, ckW_is, cR_is, obi2, ckW_int, eq_self, if_true, ref_null, if_false, ne_eq, not_true_eq_false, not_false_eq_true, decide_true, decide_false, decide_not, Bool.true_and, Bool.false_and, Bool.and_true, Bool.and_false, Bool.true_or, Bool.false_or, Bool.or_true, Bool.or_false, Bool.not_true, Bool.not_false, Bool.false_eq_true, bI_t, bI_f, Int.natCast_one, Int.cast_ofNat_Int, Int.natCast_zero, o2_0, o2_1, o2_2, o2_3, o2_4, o2_5, o2_6, o2_7, o2_8, o2_9, o2_10, o2_11, o2_12, o2_13, o2_14, o2_15, o2_16, o2_17, n2, o2s_0, o2s_1, o2s_2, o2s_3, o2s_4, o2s_5, o2s_6, o2s_7, o2s_8, o2s_9, o2s_10, o2s_11, o2s_12, o2s_13, o2s_14, o2s_15, o2s_16, o2s_17, o23_0, o23_1, o23_2, n23, o23s_0, o23s_1, o23s_2, o4_0, o4_1, o4_2, o4_3, o4_4, o4_5, o4_6, n4, o4s_0, o4s_1, o4s_2, o4s_3, o4s_4, o4s_5, o4s_6, o24_0, o24_1, o24_2, o24_3, o26_0, o28_0, o22_0, o22_1, o22_2, o22_3, o22_4, o22_5, o47_0, o47_1, o47_2, o47_3, n47, o47s_0, o47s_1, o47s_2, o47s_3, o3_0, o3_1, o3_2, o3_3, o3_4, o12_0, o12_1, o13_0, o13_1, o13_2, o13_3, o13_4, o13_5, o13_6, o14_0, o14_1, o14_2, o14_3, o14_4, o14_5, o11_0, o11_1, o11_2, o11_3, o5_0, o5_1, o5_2, o5_3, o5_4, o5_5, o6_0, o6_1, o6_2, n6, o6s_0, o6s_1, o6s_2, m0, c, ← hH1, m1, f1, aGc_V, f2, e1, m2]
    · rw [tk 1 (by decide) (by decide)]; exact (F2.2.2 _ (by omega) fun e => by have := far _ e; omega).trans h1
    · refine (P1.fr F2 (fun z hz => ?_) oH).tw W.2.1.1 ⟨fun k hk => tk k (by omega) (by omega), fun i hi => tz i (by omega) (by omega), t2, fun i _ _ => by rw [tk 6 (by decide) (by decide)]⟩
      have := far z hz
      unfold PlP StP
      exact ⟨hP z hz, by omega⟩
    · exact e2.cg fun i i0 i1 => t2' i i1
    · exact (P3.fr F2 hP (fun e => by have := far _ e; omega) (fun k z hk hz e => by have := far z e; unfold StP at hz; omega) oH n8).cg (fun i hi => t2 i (Or.inl hi)) (tk 20 (by decide) (by decide)) (by omega)
    · exact W.up (fun k hk => tk k (by omega) (by omega)) (by rw [tz 2 (by decide) (by decide)]; exact W.1.2.2.2) W2 (by rw [tz 35 (by decide) (by decide)]; exact W.2.1.2.2) (by omega) (by rw [tz 42 (by decide) (by decide)]; exact w4)
    · intro N R
      unfold RmI szS kpS at *
      rw [tz 2 (by decide) (by decide), t2 1 (by omega), t2 2 (by omega), t2 3 (by omega), tk 29 (by decide) (by decide), Int.add_zero]
      exact R
end
