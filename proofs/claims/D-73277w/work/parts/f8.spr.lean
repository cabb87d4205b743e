/-! a plan: all that others are to have by that, over and over -/
-- jc_ref, rI_int, rR_ref, rR_null, rJ_long, ckR_ref, ckR_null, ckr_ref, ckr_null, ckW_int, ckW_ref, ckW_null, cI_ok, cR_ok, cR_null, cV_ok, cJ_ok, qH_eq, qD_in, aG_ref, aS_ref, aL_ref, pF_ref, cK_ref, cK_null, zI_lit, zJ_lit, zI_add, zI_sub, zI_mul, zI_neg, zI_eq, zI_lt, zI_le, Int.reduceLT, Int.reduceLE, Int.reduceAdd, Int.reduceSub, Int.reduceMul, Int.reduceNeg, Int.reduceEq, Int.reduceNe, reduceIte, jf_in, pFc_in, aGi, aGb, aSi, aLc_in, cKc_in, nA_in, jm_s1, jm_s2, jm_p1, jm_p2, jm_b, jn_b, jn_s, jn_p, jset_jset, jset_jpush2, ckR_is, ckr_is, rR_is, ckW_is, cR_is, obi2, ckW_int, eq_self, if_true, ref_null, if_false, ne_eq, not_true_eq_false, not_false_eq_true, decide_true, decide_false, decide_not, Bool.true_and, Bool.false_and, Bool.and_true, Bool.and_false, Bool.true_or, Bool.false_or, Bool.or_true, Bool.or_false, Bool.not_true, Bool.not_false, Bool.false_eq_true, bI_t, bI_f, Int.natCast_one, Int.cast_ofNat_Int, Int.natCast_zero, o23_0, o23_1, o23_2, o12_0, o12_1, o13_0, o13_1, o13_2, o13_3, o13_4, o13_5, o13_6, o14_0, o14_1, o14_2, o14_3, o14_4, o14_5, o3_0, o3_1, o3_2, o3_3, o3_4, o11_0, o11_1, o11_2, o11_3, o4_0, o4_1, o4_2, o4_3, o4_4, o4_5, o4_6, o5_0, o5_1, o5_2, o5_3, o5_4, o5_5, n5, o5s_0, o5s_1, o5s_2, o5s_3, o5s_4, o5s_5 = jc_ref, rI_int, rR_ref, rR_null, rJ_long, ckR_ref, ckR_null, ckr_ref, ckr_null, ckW_int, ckW_ref, ckW_null, cI_ok, cR_ok, cR_null, cV_ok, cJ_ok, qH_eq, qD_in, aG_ref, aS_ref, aL_ref, pF_ref, cK_ref, cK_null, zI_lit, zJ_lit, zI_add, zI_sub, zI_mul, zI_neg, zI_eq, zI_lt, zI_le, Int.reduceLT, Int.reduceLE, Int.reduceAdd, Int.reduceSub, Int.reduceMul, Int.reduceNeg, Int.reduceEq, Int.reduceNe, reduceIte, jf_in, pFc_in, aGi, aGb, aSi, aLc_in, cKc_in, nA_in, jm_s1, jm_s2, jm_p1, jm_p2, jm_b, jn_b, jn_s, jn_p, jset_jset, jset_jpush2, ckR_is, ckr_is, rR_is, ckW_is, cR_is, obi2, ckW_int, eq_self, if_true, ref_null, if_false, ne_eq, not_true_eq_false, not_false_eq_true, decide_true, decide_false, decide_not, Bool.true_and, Bool.false_and, Bool.and_true, Bool.and_false, Bool.true_or, Bool.false_or, Bool.or_true, Bool.or_false, Bool.not_true, Bool.not_false, Bool.false_eq_true, bI_t, bI_f, Int.natCast_one, Int.cast_ofNat_Int, Int.natCast_zero, o23_0, o23_1, o23_2, o12_0, o12_1, o13_0, o13_1, o13_2, o13_3, o13_4, o13_5, o13_6, o14_0, o14_1, o14_2, o14_3, o14_4, o14_5, o3_0, o3_1, o3_2, o3_3, o3_4, o11_0, o11_1, o11_2, o11_3, o4_0, o4_1, o4_2, o4_3, o4_4, o4_5, o4_6, o5_0, o5_1, o5_2, o5_3, o5_4, o5_5, n5, o5s_0, o5s_1, o5s_2, o5s_3, o5s_4, o5s_5
section
variable {F : Nat → Option Cl} {d : Nat} {H H2 : AH} {a b e p q fb pb : Nat} {r t c k n f v x : Int} {cs S nm : Int → Int} {ra : Int → Nat} {wl : Nat} {g : Nat → Bool} {w : WS} {sp : Int → Int} {P : Nat → Prop}
theorem PlW.rows (h : PlW F H q a p S nm ra wl g w sp) : ∃ (ins on : Int) (v1 v2 v3 : Value) (mc : Int32) (l : List Value), jm H a = some (4, 7, o4 (.ref q) ins on (.ref (a + 1)) v1 v2 v3) ∧ jm H (a + 1) = some (cAL 40 mc l) ∧ RowsF F l S 150 348 ra := by
  obtain ⟨-, -, -, ⟨ins, on, l1, l2, l3, wm, bs, ⟨h0, ⟨m1, h1⟩, -⟩, h6⟩, -⟩ := h
  exact ⟨ins, on, _, _, _, m1, l1, h0, h1, h6⟩
/-- one row comes to all references -/
theorem sp_44 (x0 : 0 ≤ x) (x1 : x < 99) (x2 : S (150 + x) = 1) {A s : List Int} {n : Nat} (hA : A = alv S 150 99 0) (hs : A.drop n = x :: s) : ∀ (j : Nat) (f : Int) (H : AH) (w : WS), PlW F H q a p S nm ra wl g w sp → 0 ≤ f → f + j = S 2 →
    ∃ H2, G2 (d + 4) 5013 44 [.ref p, .int (zI n), .int (zI f)] [] H = G2 (d + 4) 5013 7 [.ref p, .int (zI (n + 1)), .int (zI (S 2))] [] H2 ∧ PlW F H2 q a p S nm ra wl g (comF S g x j f w) sp ∧ Fr H H2 (PlP p) ∧ H2.1 = H.1 ∧ H2.2.1 = H.2.1 := by
  intro j
  induction j with
  | zero =>
    intro f H w h f0 hf
    have W := h.2.2.1
    have hF := h.1
    have N0 := W.n0
    obtain ⟨ins, on, v1, v2, v3, mc, l, s0, s1, s2⟩ := h.rows
    have p0 := h.2.2.2.2.1.1
    obtain ⟨ln, qt, qk, qr, qc, z1, -, -, z4, -⟩ := id h.2.1
    have z1' := hF.m z1
    have hRs := z4.size hF
    refine ⟨H, ?_, h, Fr.rf, rfl, rfl⟩
    obtain rfl : f = S 2 := by omega
    rw [F5013_44]
    simp (disch := first | assumption | omega | decide | exact okF_i | exact okF_r | exact okF_n | exact okF_j | rfl) only [jc_ref, rI_int, rR_ref, rR_null, rJ_long, ckR_ref, ckR_null, ckr_ref, ckr_null, ckW_int, ckW_ref, ckW_null, cI_ok, cR_ok, cR_null, cV_ok, cJ_ok, qH_eq, qD_in, aG_ref, aS_ref, aL_ref, pF_ref, cK_ref, cK_null, zI_lit, zJ_lit, zI_add, zI_sub, zI_mul, zI_neg, zI_eq, zI_lt, zI_le, Int.reduceLT, Int.reduceLE, Int.reduceAdd, Int.reduceSub, Int.reduceMul, Int.reduceNeg, Int.reduceEq, Int.reduceNe, reduceIte, jf_in, pFc_in, aGi, aGb, aSi, aLc_in, cKc_in, nA_in, jm_s1, jm_s2, jm_p1, jm_p2, jm_b, jn_b, jn_s, jn_p, jset_jset, jset_jpush2, ckR_is, ckr_is, rR_is, ckW_is, cR_is, obi2, ckW_int, eq_self, if_true, ref_null, if_false, ne_eq, not_true_eq_false, not_false_eq_true, decide_true, decide_false, decide_not, Bool.true_and, Bool.false_and, Bool.and_true, Bool.and_false, Bool.true_or, Bool.false_or, Bool.or_true, Bool.or_false, Bool.not_true, Bool.not_false, Bool.false_eq_true, bI_t, bI_f, Int.natCast_one, Int.cast_ofNat_Int, Int.natCast_zero, o23_0, o23_1, o23_2, o12_0, o12_1, o13_0, o13_1, o13_2, o13_3, o13_4, o13_5, o13_6, o14_0, o14_1, o14_2, o14_3, o14_4, o14_5, o3_0, o3_1, o3_2, o3_3, o3_4, o11_0, o11_1, o11_2, o11_3, o4_0, o4_1, o4_2, o4_3, o4_4, o4_5, o4_6, o5_0, o5_1, o5_2, o5_3, o5_4, o5_5, n5, o5s_0, o5s_1, o5s_2, o5s_3, o5s_4, o5s_5, p0, s0, z1', hRs]
    rw [if_pos (Int.le_refl _)]
  | succ j ih =>
    intro f H w h f0 hf
    have W := h.2.2.1
    have hF := h.1
    have N0 := W.n0
    have hle := alv_le W
    obtain ⟨ins, on, v1, v2, v3, mc, l, s0, s1, s2⟩ := h.rows
    have hl := rows_len s2
    have p0 := h.2.2.2.2.1.1
    obtain ⟨ln, qt, qk, qr, qc, z1, -, -, z4, -⟩ := id h.2.1
    have z1' := hF.m z1
    have hRs := z4.size hF
    obtain ⟨fb, hfb, hg⟩ := z4.get hF f0 (show f < S 2 by omega)
    obtain ⟨fe, y1, -⟩ := id hfb
    have y1' := hF.m y1
    obtain ⟨e1, e2, e3, e4, -, -, -⟩ := rows_at s2 hA hs
    have hgr := h_get (d := d + 3) (i := n) s1 (by omega) (by omega) (by omega) (by omega)
    rw [Int.toNat_natCast, e1] at hgr
    obtain ⟨xe, xg, m1, m2, m3⟩ := e2
    have m1' := hF.m m1
    obtain ⟨H2, c1, c2, c3, c4, c5⟩ := p_comesTo (d := d) h x0 x1 x2 hfb f0 (by omega)
    obtain ⟨H3, i1, i2, i3, i4, i5⟩ := ih (f + 1) H2 _ c2 (by omega) (by omega)
    refine ⟨H3, ?_, i2, c3.tr i3, i4.trans c4, i5.trans c5⟩
    rw [← i1]
    conv => lhs; rw [F5013_44]
    simp (disch := first | assumption | omega | decide | exact okF_i | exact okF_r | exact okF_n | exact okF_j | rfl) only [jc_ref, rI_int, rR_ref, rR_null, rJ_long, ckR_ref, ckR_null, ckr_ref, ckr_null, ckW_int, ckW_ref, ckW_null, cI_ok, cR_ok, cR_null, cV_ok, cJ_ok, qH_eq, qD_in, aG_ref, aS_ref, aL_ref, pF_ref, cK_ref, cK_null, zI_lit, zJ_lit, zI_add, zI_sub, zI_mul, zI_neg, zI_eq, zI_lt, zI_le, Int.reduceLT, Int.reduceLE, Int.reduceAdd, Int.reduceSub, Int.reduceMul, Int.reduceNeg, Int.reduceEq, Int.reduceNe, reduceIte, jf_in, pFc_in, aGi, aGb, aSi, aLc_in, cKc_in, nA_in, jm_s1, jm_s2, jm_p1, jm_p2, jm_b, jn_b, jn_s, jn_p, jset_jset, jset_jpush2, ckR_is, ckr_is, rR_is, ckW_is, cR_is, obi2, ckW_int, eq_self, if_true, ref_null, if_false, ne_eq, not_true_eq_false, not_false_eq_true, decide_true, decide_false, decide_not, Bool.true_and, Bool.false_and, Bool.and_true, Bool.and_false, Bool.true_or, Bool.false_or, Bool.or_true, Bool.or_false, Bool.not_true, Bool.not_false, Bool.false_eq_true, bI_t, bI_f, Int.natCast_one, Int.cast_ofNat_Int, Int.natCast_zero, o23_0, o23_1, o23_2, o12_0, o12_1, o13_0, o13_1, o13_2, o13_3, o13_4, o13_5, o13_6, o14_0, o14_1, o14_2, o14_3, o14_4, o14_5, o3_0, o3_1, o3_2, o3_3, o3_4, o11_0, o11_1, o11_2, o11_3, o4_0, o4_1, o4_2, o4_3, o4_4, o4_5, o4_6, o5_0, o5_1, o5_2, o5_3, o5_4, o5_5, n5, o5s_0, o5s_1, o5s_2, o5s_3, o5s_4, o5s_5, p0, s0, z1', hRs, hg, hgr, m1', y1', c1]
    rw [if_neg (by omega)]
theorem sp_7 : ∀ (s : List Int) (n : Nat) (H : AH) (w : WS) (v : Value), PlW F H q a p S nm ra wl g w sp → (alv S 150 99 0).drop n = s → n ≤ (alv S 150 99 0).length →
    ∃ (H2 : AH) (i1 : Int) (v2 : Value), G2 (d + 4) 5013 7 [.ref p, .int (zI n), v] [] H = (if (comL S g s w).2.2 = 0 then some (.inl none, H2) else if (comL S g s w).2.1 = 0 then G2 (d + 4) 5013 0 [.ref p, .int (zI i1), v2] [] H2 else some (.inl none, H2)) ∧ PlW F H2 q a p S nm ra wl g (comL S g s w) sp ∧ Fr H H2 (PlP p) ∧ H2.1 = H.1 ∧ H2.2.1 = H.2.1 := by
  intro s
  induction s with
  | nil =>
    intro n H w v h hn hnl
    have W := h.2.2.1
    have hle := alv_le W
    obtain ⟨ins, on, v1, v2, v3, mc, l, s0, s1, s2⟩ := h.rows
    have hl := rows_len s2
    have hsz := h_size (d := d + 3) s1
    have p0 := h.2.2.2.2.1.1
    have hw := h.2.2.2.2.1.2.2.2.2.2.2
    have : (alv S 150 99 0).length ≤ n := by
      have := congrArg List.length hn
      simp at this
      omega
    refine ⟨H, n, v, ?_, h, Fr.rf, rfl, rfl⟩
    show _ = (if w.2.2 = 0 then _ else if w.2.1 = 0 then _ else _)
    conv => lhs; rw [F5013_7]
    have w1 := hw.2.1
    have w2 := hw.2.2
    simp (disch := first | assumption | omega | decide | exact okF_i | exact okF_r | exact okF_n | exact okF_j | rfl) only [jc_ref, rI_int, rR_ref, rR_null, rJ_long, ckR_ref, ckR_null, ckr_ref, ckr_null, ckW_int, ckW_ref, ckW_null, cI_ok, cR_ok, cR_null, cV_ok, cJ_ok, qH_eq, qD_in, aG_ref, aS_ref, aL_ref, pF_ref, cK_ref, cK_null, zI_lit, zJ_lit, zI_add, zI_sub, zI_mul, zI_neg, zI_eq, zI_lt, zI_le, Int.reduceLT, Int.reduceLE, Int.reduceAdd, Int.reduceSub, Int.reduceMul, Int.reduceNeg, Int.reduceEq, Int.reduceNe, reduceIte, jf_in, pFc_in, aGi, aGb, aSi, aLc_in, cKc_in, nA_in, jm_s1, jm_s2, jm_p1, jm_p2, jm_b, jn_b, jn_s, jn_p, jset_jset, jset_jpush2, ckR_is, ckr_is, rR_is, ckW_is, cR_is, obi2, ckW_int, eq_self, if_true, ref_null, if_false, ne_eq, not_true_eq_false, not_false_eq_true, decide_true, decide_false, decide_not, Bool.true_and, Bool.false_and, Bool.and_true, Bool.and_false, Bool.true_or, Bool.false_or, Bool.or_true, Bool.or_false, Bool.not_true, Bool.not_false, Bool.false_eq_true, bI_t, bI_f, Int.natCast_one, Int.cast_ofNat_Int, Int.natCast_zero, o23_0, o23_1, o23_2, o12_0, o12_1, o13_0, o13_1, o13_2, o13_3, o13_4, o13_5, o13_6, o14_0, o14_1, o14_2, o14_3, o14_4, o14_5, o3_0, o3_1, o3_2, o3_3, o3_4, o11_0, o11_1, o11_2, o11_3, o4_0, o4_1, o4_2, o4_3, o4_4, o4_5, o4_6, o5_0, o5_1, o5_2, o5_3, o5_4, o5_5, n5, o5s_0, o5s_1, o5s_2, o5s_3, o5s_4, o5s_5, p0, s0, hsz]
    rw [if_pos (by omega)]
  | cons x s ih =>
    intro n H w v h hn hnl
    have W := h.2.2.1
    have hF := h.1
    have N0 := W.n0
    have hle := alv_le W
    obtain ⟨ins, on, v1, v2, v3, mc, l, s0, s1, s2⟩ := h.rows
    have hl := rows_len s2
    have hsz := h_size (d := d + 3) s1
    have p0 := h.2.2.2.2.1.1
    obtain ⟨e1, e2, e3, e4, x0, x1, x2⟩ := rows_at s2 rfl hn
    have hgr := h_get (d := d + 3) (i := n) s1 (by omega) (by omega) (by omega) (by omega)
    rw [Int.toNat_natCast, e1] at hgr
    have gs := p_goes (d := d + 2) hF h.2.2.2.2.1 e2 x0 x1
    obtain ⟨xe, xg, m1, m2, m3⟩ := e2
    have m1' := hF.m m1
    have e : comL S g (x :: s) w = comL S g s (if g x.toNat = true then w else comF S g x (S 2).toNat 0 w) := rfl
    rw [e]
    have c1 : ((n + 1 : Nat) : Int) = (n : Int) + 1 := by omega
    cases hg : g x.toNat with
    | true =>
      rw [hg] at gs
      rw [if_pos rfl]
      obtain ⟨H2, i1, v2, j1, j2⟩ := ih (n + 1) H w v h e3 (by omega)
      refine ⟨H2, i1, v2, ?_, j2⟩
      rw [← j1, c1]
      conv => lhs; rw [F5013_7]
      simp (disch := first | assumption | omega | decide | exact okF_i | exact okF_r | exact okF_n | exact okF_j | rfl) only [jc_ref, rI_int, rR_ref, rR_null, rJ_long, ckR_ref, ckR_null, ckr_ref, ckr_null, ckW_int, ckW_ref, ckW_null, cI_ok, cR_ok, cR_null, cV_ok, cJ_ok, qH_eq, qD_in, aG_ref, aS_ref, aL_ref, pF_ref, cK_ref, cK_null, zI_lit, zJ_lit, zI_add, zI_sub, zI_mul, zI_neg, zI_eq, zI_lt, zI_le, Int.reduceLT, Int.reduceLE, Int.reduceAdd, Int.reduceSub, Int.reduceMul, Int.reduceNeg, Int.reduceEq, Int.reduceNe, reduceIte, jf_in, pFc_in, aGi, aGb, aSi, aLc_in, cKc_in, nA_in, jm_s1, jm_s2, jm_p1, jm_p2, jm_b, jn_b, jn_s, jn_p, jset_jset, jset_jpush2, ckR_is, ckr_is, rR_is, ckW_is, cR_is, obi2, ckW_int, eq_self, if_true, ref_null, if_false, ne_eq, not_true_eq_false, not_false_eq_true, decide_true, decide_false, decide_not, Bool.true_and, Bool.false_and, Bool.and_true, Bool.and_false, Bool.true_or, Bool.false_or, Bool.or_true, Bool.or_false, Bool.not_true, Bool.not_false, Bool.false_eq_true, bI_t, bI_f, Int.natCast_one, Int.cast_ofNat_Int, Int.natCast_zero, o23_0, o23_1, o23_2, o12_0, o12_1, o13_0, o13_1, o13_2, o13_3, o13_4, o13_5, o13_6, o14_0, o14_1, o14_2, o14_3, o14_4, o14_5, o3_0, o3_1, o3_2, o3_3, o3_4, o11_0, o11_1, o11_2, o11_3, o4_0, o4_1, o4_2, o4_3, o4_4, o4_5, o4_6, o5_0, o5_1, o5_2, o5_3, o5_4, o5_5, n5, o5s_0, o5s_1, o5s_2, o5s_3, o5s_4, o5s_5, p0, s0, hsz, hgr, m1', gs]
      rw [if_neg (by omega)]
    | false =>
      rw [hg] at gs
      rw [if_neg (by decide)]
      obtain ⟨H2, k1, k2, k3, k4, k5⟩ := sp_44 (d := d) x0 x1 x2 rfl hn (S 2).toNat 0 H w h (Int.le_refl _) (by omega)
      obtain ⟨H3, i1, v2, j1, j2, j3, j4, j5⟩ := ih (n + 1) H2 _ (.int (zI (S 2))) k2 e3 (by omega)
      refine ⟨H3, i1, v2, ?_, j2, k3.tr j3, j4.trans k4, j5.trans k5⟩
      rw [← j1, c1, ← k1]
      conv => lhs; rw [F5013_7]
      simp (disch := first | assumption | omega | decide | exact okF_i | exact okF_r | exact okF_n | exact okF_j | rfl) only [jc_ref, rI_int, rR_ref, rR_null, rJ_long, ckR_ref, ckR_null, ckr_ref, ckr_null, ckW_int, ckW_ref, ckW_null, cI_ok, cR_ok, cR_null, cV_ok, cJ_ok, qH_eq, qD_in, aG_ref, aS_ref, aL_ref, pF_ref, cK_ref, cK_null, zI_lit, zJ_lit, zI_add, zI_sub, zI_mul, zI_neg, zI_eq, zI_lt, zI_le, Int.reduceLT, Int.reduceLE, Int.reduceAdd, Int.reduceSub, Int.reduceMul, Int.reduceNeg, Int.reduceEq, Int.reduceNe, reduceIte, jf_in, pFc_in, aGi, aGb, aSi, aLc_in, cKc_in, nA_in, jm_s1, jm_s2, jm_p1, jm_p2, jm_b, jn_b, jn_s, jn_p, jset_jset, jset_jpush2, ckR_is, ckr_is, rR_is, ckW_is, cR_is, obi2, ckW_int, eq_self, if_true, ref_null, if_false, ne_eq, not_true_eq_false, not_false_eq_true, decide_true, decide_false, decide_not, Bool.true_and, Bool.false_and, Bool.and_true, Bool.and_false, Bool.true_or, Bool.false_or, Bool.or_true, Bool.or_false, Bool.not_true, Bool.not_false, Bool.false_eq_true, bI_t, bI_f, Int.natCast_one, Int.cast_ofNat_Int, Int.natCast_zero, o23_0, o23_1, o23_2, o12_0, o12_1, o13_0, o13_1, o13_2, o13_3, o13_4, o13_5, o13_6, o14_0, o14_1, o14_2, o14_3, o14_4, o14_5, o3_0, o3_1, o3_2, o3_3, o3_4, o11_0, o11_1, o11_2, o11_3, o4_0, o4_1, o4_2, o4_3, o4_4, o4_5, o4_6, o5_0, o5_1, o5_2, o5_3, o5_4, o5_5, n5, o5s_0, o5s_1, o5s_2, o5s_3, o5s_4, o5s_5, p0, s0, hsz, hgr, m1', gs]
      rw [if_neg (by omega)]
theorem sp_0 : ∀ (m : Nat) (H : AH) (w : WS) (v1 v2 : Value), PlW F H q a p S nm ra wl g w sp → w.2.1 = 0 → cu w.1 396 0 < m →
    ∃ H2, G2 (d + 4) 5013 0 [.ref p, v1, v2] [] H = some (.inl none, H2) ∧ PlW F H2 q a p S nm ra wl g (itr (comL S g (alv S 150 99 0)) m (w.1, w.2.1, 1)) sp ∧ Fr H H2 (PlP p) ∧ H2.1 = H.1 ∧ H2.2.1 = H.2.1 := by
  intro m
  induction m with
  | zero => intro H w v1 v2 _ _ h; omega
  | succ m ih =>
    intro H w v1 v2 h hc hm
    have W := h.2.2.1
    have hp := h.2.2.2.2.1
    obtain ⟨h0, h1, h2, h3, h4, h5, h6⟩ := id hp
    have okz : okF 3 (.int (zI 0)) = true := rfl
    have f1 : Fr H (jset H p (5, 6, o5 (.ref a) (.ref (p + 1)) (.ref (p + 3)) (.ref (p + 4)) w.2.1 0)) (PlP p) := Fr.set (by unfold PlP; omega)
    have hw1 : WsW (w.1, w.2.1, 0) := ⟨h6.1, h6.2.1, Or.inl rfl⟩
    have hq : PlW F (jset H p (5, 6, o5 (.ref a) (.ref (p + 1)) (.ref (p + 3)) (.ref (p + 4)) w.2.1 0)) q a p S nm ra wl g (w.1, w.2.1, 0) sp := h.st ⟨jm_s1, (jm_s2 (show p + 1 ≠ p by omega)).trans h1, (jm_s2 (show p + 3 ≠ p by omega)).trans h2, (jm_s2 (show p + 4 ≠ p by omega)).trans h3, h4, h5, hw1⟩ f1
    obtain ⟨H2, i1, v3, j1, j2, j3, j4, j5⟩ := sp_7 (d := d) _ 0 _ _ v2 hq rfl (Nat.zero_le _)
    rw [List.drop_zero] at j1 j2
    have j1' : G2 (d + 4) 5013 7 [.ref p, .int (zI 0), v2] [] (jset H p (5, 6, o5 (.ref a) (.ref (p + 1)) (.ref (p + 3)) (.ref (p + 4)) w.2.1 0)) = (if (comL S g (alv S 150 99 0) (w.1, w.2.1, 0)).2.2 = 0 then some (.inl none, H2) else if (comL S g (alv S 150 99 0) (w.1, w.2.1, 0)).2.1 = 0 then G2 (d + 4) 5013 0 [.ref p, .int (zI i1), v3] [] H2 else some (.inl none, H2)) := j1
    have hw2 := comL_W (gg := g) W (alv S 150 99 0) _ hw1
    have pp := (com_pass (gg := g) W _ hw1).2.2.2.2.2
    have e0 : ph (w.1, w.2.1, 0) = cu w.1 396 0 := by
      show cu w.1 396 0 + (if (0 : Int) = 1 then 1 else 0) = _
      rw [if_neg (by decide), Nat.add_zero]
    have e2 : ph (comL S g (alv S 150 99 0) (w.1, w.2.1, 0)) = cu (comL S g (alv S 150 99 0) (w.1, w.2.1, 0)).1 396 0 + (if (comL S g (alv S 150 99 0) (w.1, w.2.1, 0)).2.2 = 1 then 1 else 0) := rfl
    have en : itr (comL S g (alv S 150 99 0)) (m + 1) (w.1, w.2.1, 1) = itr (comL S g (alv S 150 99 0)) m (comL S g (alv S 150 99 0) (w.1, w.2.1, 0)) := by
      show (if (1 : Int) = 0 ∨ w.2.1 = 1 then _ else _) = _
      rw [if_neg (by omega)]
    have st : G2 (d + 4) 5013 0 [.ref p, v1, v2] [] H = (if (comL S g (alv S 150 99 0) (w.1, w.2.1, 0)).2.2 = 0 then some (.inl none, H2) else if (comL S g (alv S 150 99 0) (w.1, w.2.1, 0)).2.1 = 0 then G2 (d + 4) 5013 0 [.ref p, .int (zI i1), v3] [] H2 else some (.inl none, H2)) := by
      rw [F5013_0v]
      simp (disch := first | assumption | omega | decide | exact okF_i | exact okF_r | exact okF_n | exact okF_j | rfl) only [jc_ref, rI_int, rR_ref, rR_null, rJ_long, ckR_ref, ckR_null, ckr_ref, ckr_null, ckW_int, ckW_ref, ckW_null, cI_ok, cR_ok, cR_null, cV_ok, cJ_ok, qH_eq, qD_in, aG_ref, aS_ref, aL_ref, pF_ref, cK_ref, cK_null, zI_lit, zJ_lit, zI_add, zI_sub, zI_mul, zI_neg, zI_eq, zI_lt, zI_le, Int.reduceLT, Int.reduceLE, Int.reduceAdd, Int.reduceSub, Int.reduceMul, Int.reduceNeg, Int.reduceEq, Int.reduceNe, reduceIte, jf_in, pFc_in, aGi, aGb, aSi, aLc_in, cKc_in, nA_in, jm_s1, jm_s2, jm_p1, jm_p2, jm_b, jn_b, jn_s, jn_p, jset_jset, jset_jpush2, ckR_is, ckr_is, rR_is, ckW_is, cR_is, obi2, ckW_int, eq_self, if_true, ref_null, if_false, ne_eq, not_true_eq_false, not_false_eq_true, decide_true, decide_false, decide_not, Bool.true_and, Bool.false_and, Bool.and_true, Bool.and_false, Bool.true_or, Bool.false_or, Bool.or_true, Bool.or_false, Bool.not_true, Bool.not_false, Bool.false_eq_true, bI_t, bI_f, Int.natCast_one, Int.cast_ofNat_Int, Int.natCast_zero, o23_0, o23_1, o23_2, o12_0, o12_1, o13_0, o13_1, o13_2, o13_3, o13_4, o13_5, o13_6, o14_0, o14_1, o14_2, o14_3, o14_4, o14_5, o3_0, o3_1, o3_2, o3_3, o3_4, o11_0, o11_1, o11_2, o11_3, o4_0, o4_1, o4_2, o4_3, o4_4, o4_5, o4_6, o5_0, o5_1, o5_2, o5_3, o5_4, o5_5, n5, o5s_0, o5s_1, o5s_2, o5s_3, o5s_4, o5s_5, h0]
      exact j1'
    rw [en]
    generalize comL S g (alv S 150 99 0) (w.1, w.2.1, 0) = u at *
    have stay : ∀ n, u.2.2 = 0 ∨ u.2.1 = 1 → itr (comL S g (alv S 150 99 0)) n u = u := fun n hu => by
      cases n with
      | zero => rfl
      | succ n => rw [itr_s, if_pos hu]
    by_cases m0 : u.2.2 = 0
    · rw [if_pos m0] at st
      rw [stay m (Or.inl m0)]
      exact ⟨H2, st, j2, f1.tr j3, j4, j5⟩
    · rw [if_neg m0] at st
      have m1 : u.2.2 = 1 := by rcases hw2.2.2 with z | z; exact absurd z m0; exact z
      rw [if_pos m1] at e2
      by_cases c0 : u.2.1 = 0
      · rw [if_pos c0] at st
        obtain ⟨H3, k1, k2, k3, k4, k5⟩ := ih H2 u (.int (zI i1)) v3 j2 c0 (by omega)
        have eu : (u.1, u.2.1, (1 : Int)) = u := by rw [← m1]
        rw [eu] at k2
        exact ⟨H3, st.trans k1, k2, f1.tr (j3.tr k3), k4.trans j4, k5.trans j5⟩
      · rw [if_neg c0] at st
        rw [stay m (Or.inr (by rcases hw2.2.1 with z | z; exact absurd z c0; exact z))]
        exact ⟨H2, st, j2, f1.tr j3, j4, j5⟩
theorem sp_1 (h : PlW F H q a p S nm ra wl g w sp) (hc : w.2.1 = 1) {v1 v2 : Value} :
    ∃ H2, G2 (d + 4) 5013 0 [.ref p, v1, v2] [] H = some (.inl none, H2) ∧ PlW F H2 q a p S nm ra wl g (comL S g (alv S 150 99 0) (w.1, w.2.1, 0)) sp ∧ Fr H H2 (PlP p) ∧ H2.1 = H.1 ∧ H2.2.1 = H.2.1 := by
  have W := h.2.2.1
  obtain ⟨h0, h1, h2, h3, h4, h5, h6⟩ := id h.2.2.2.2.1
  have okz : okF 3 (.int (zI 0)) = true := rfl
  have f1 : Fr H (jset H p (5, 6, o5 (.ref a) (.ref (p + 1)) (.ref (p + 3)) (.ref (p + 4)) w.2.1 0)) (PlP p) := Fr.set (by unfold PlP; omega)
  have hw1 : WsW (w.1, w.2.1, 0) := ⟨h6.1, h6.2.1, Or.inl rfl⟩
  have hq : PlW F (jset H p (5, 6, o5 (.ref a) (.ref (p + 1)) (.ref (p + 3)) (.ref (p + 4)) w.2.1 0)) q a p S nm ra wl g (w.1, w.2.1, 0) sp := h.st ⟨jm_s1, (jm_s2 (show p + 1 ≠ p by omega)).trans h1, (jm_s2 (show p + 3 ≠ p by omega)).trans h2, (jm_s2 (show p + 4 ≠ p by omega)).trans h3, h4, h5, hw1⟩ f1
  obtain ⟨H2, i1, v3, j1, j2, j3, j4, j5⟩ := sp_7 (d := d) _ 0 _ _ v2 hq rfl (Nat.zero_le _)
  rw [List.drop_zero] at j1 j2
  have c1 := (com_pass (gg := g) W _ hw1).2.2.2.2.1 hc
  have j1' : G2 (d + 4) 5013 7 [.ref p, .int (zI 0), v2] [] (jset H p (5, 6, o5 (.ref a) (.ref (p + 1)) (.ref (p + 3)) (.ref (p + 4)) w.2.1 0)) = (if (comL S g (alv S 150 99 0) (w.1, w.2.1, 0)).2.2 = 0 then some (.inl none, H2) else if (comL S g (alv S 150 99 0) (w.1, w.2.1, 0)).2.1 = 0 then G2 (d + 4) 5013 0 [.ref p, .int (zI i1), v3] [] H2 else some (.inl none, H2)) := j1
  refine ⟨H2, ?_, j2, f1.tr j3, j4, j5⟩
  rw [F5013_0v]
  simp (disch := first | assumption | omega | decide | exact okF_i | exact okF_r | exact okF_n | exact okF_j | rfl) only [jc_ref, rI_int, rR_ref, rR_null, rJ_long, ckR_ref, ckR_null, ckr_ref, ckr_null, ckW_int, ckW_ref, ckW_null, cI_ok, cR_ok, cR_null, cV_ok, cJ_ok, qH_eq, qD_in, aG_ref, aS_ref, aL_ref, pF_ref, cK_ref, cK_null, zI_lit, zJ_lit, zI_add, zI_sub, zI_mul, zI_neg, zI_eq, zI_lt, zI_le, Int.reduceLT, Int.reduceLE, Int.reduceAdd, Int.reduceSub, Int.reduceMul, Int.reduceNeg, Int.reduceEq, Int.reduceNe, reduceIte, jf_in, pFc_in, aGi, aGb, aSi, aLc_in, cKc_in, nA_in, jm_s1, jm_s2, jm_p1, jm_p2, jm_b, jn_b, jn_s, jn_p, jset_jset, jset_jpush2, ckR_is, ckr_is, rR_is, ckW_is, cR_is, obi2, ckW_int, eq_self, if_true, ref_null, if_false, ne_eq, not_true_eq_false, not_false_eq_true, decide_true, decide_false, decide_not, Bool.true_and, Bool.false_and, Bool.and_true, Bool.and_false, Bool.true_or, Bool.false_or, Bool.or_true, Bool.or_false, Bool.not_true, Bool.not_false, Bool.false_eq_true, bI_t, bI_f, Int.natCast_one, Int.cast_ofNat_Int, Int.natCast_zero, o23_0, o23_1, o23_2, o12_0, o12_1, o13_0, o13_1, o13_2, o13_3, o13_4, o13_5, o13_6, o14_0, o14_1, o14_2, o14_3, o14_4, o14_5, o3_0, o3_1, o3_2, o3_3, o3_4, o11_0, o11_1, o11_2, o11_3, o4_0, o4_1, o4_2, o4_3, o4_4, o4_5, o4_6, o5_0, o5_1, o5_2, o5_3, o5_4, o5_5, n5, o5s_0, o5s_1, o5s_2, o5s_3, o5s_4, o5s_5, h0]
  refine j1'.trans ?_
  split
  · rfl
  · rw [if_neg (by omega)]
/-- what follows from the wants: the least closed ones, or a clash -/
theorem p_spreads (h : PlW F H q a p S nm ra wl g w sp) :
    ∃ (H2 : AH) (w' : WS), M2 (d + 5) 5013 [.ref p] H = some (.inl none, H2) ∧ PlW F H2 q a p S nm ra wl g w' sp ∧ ((w.2.1 = 0 ∧ w' = itr (comL S g (alv S 150 99 0)) 397 (w.1, w.2.1, 1) ∧ LstW S g w w') ∨ (w.2.1 = 1 ∧ w' = comL S g (alv S 150 99 0) (w.1, w.2.1, 0) ∧ w'.2.1 = 1)) ∧ Fr H H2 (PlP p) ∧ H2.1 = H.1 ∧ H2.2.1 = H.2.1 := by
  have W := h.2.2.1
  obtain ⟨h0, h1, h2, h3, h4, h5, h6⟩ := id h.2.2.2.2.1
  have cl := cu_le (g := w.1) 396 0
  rcases h6.2.1 with hc | hc
  · obtain ⟨H2, x1, x2, x3⟩ := sp_0 (d := d) 397 H w jno jno h hc (by omega)
    refine ⟨H2, _, ?_, x2, Or.inl ⟨hc, rfl, ?_⟩, x3⟩
    · rw [Y5013 H (jrecv_in h0 rfl)]
      exact x1
    · exact itr_lst (com_pass W) 397 (w.1, w.2.1, 1) ⟨h6.1, h6.2.1, Or.inr rfl⟩ rfl (by show cu w.1 396 0 < 397; omega) (fun W' _ hs => ⟨hc, hs⟩) (fun _ _ => rfl)
  · obtain ⟨H2, x1, x2, x3⟩ := sp_1 (d := d) h hc (v1 := jno) (v2 := jno)
    refine ⟨H2, _, ?_, x2, Or.inr ⟨hc, rfl, (com_pass (gg := g) W (w.1, w.2.1, 0) ⟨h6.1, h6.2.1, Or.inl rfl⟩).2.2.2.2.1 hc⟩, x3⟩
    rw [Y5013 H (jrecv_in h0 rfl)]
    exact x1
end
