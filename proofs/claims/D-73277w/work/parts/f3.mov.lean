/-! a plan: is a key changed; a row follows that; a row comes to a reference -/
-- jc_ref, rI_int, rR_ref, rR_null, rJ_long, ckR_ref, ckR_null, ckr_ref, ckr_null, ckW_int, ckW_ref, ckW_null, cI_ok, cR_ok, cR_null, cV_ok, cJ_ok, qH_eq, qD_in, aG_ref, aS_ref, aL_ref, pF_ref, cK_ref, cK_null, zI_lit, zJ_lit, zI_add, zI_sub, zI_mul, zI_neg, zI_eq, zI_lt, zI_le, Int.reduceLT, Int.reduceLE, Int.reduceAdd, Int.reduceSub, Int.reduceMul, Int.reduceNeg, Int.reduceEq, Int.reduceNe, reduceIte, jf_in, pFc_in, aGi, aGb, aSi, aLc_in, cKc_in, nA_in, jm_s1, jm_s2, jm_p1, jm_p2, jm_b, jn_b, jn_s, jn_p, jset_jset, jset_jpush2, ckR_is, ckr_is, rR_is, ckW_is, cR_is, obi2, ckW_int, eq_self, if_true, ref_null, if_false, ne_eq, not_true_eq_false, not_false_eq_true, decide_true, decide_false, decide_not, Bool.true_and, Bool.false_and, Bool.and_true, Bool.and_false, Bool.true_or, Bool.false_or, Bool.or_true, Bool.or_false, Bool.not_true, Bool.not_false, Bool.false_eq_true, bI_t, bI_f, Int.natCast_one, Int.cast_ofNat_Int, Int.natCast_zero, o23_0, o23_1, o23_2, o12_0, o12_1, o13_0, o13_1, o13_2, o13_3, o13_4, o13_5, o13_6, o14_0, o14_1, o14_2, o14_3, o14_4, o14_5, o3_0, o3_1, o3_2, o3_3, o3_4, o11_0, o11_1, o11_2, o11_3, o4_0, o4_1, o4_2, o4_3, o4_4, o4_5, o4_6, o5_0, o5_1, o5_2, o5_3, o5_4, o5_5, n5, o5s_0, o5s_1, o5s_2, o5s_3, o5s_4, o5s_5 = jc_ref, rI_int, rR_ref, rR_null, rJ_long, ckR_ref, ckR_null, ckr_ref, ckr_null, ckW_int, ckW_ref, ckW_null, cI_ok, cR_ok, cR_null, cV_ok, cJ_ok, qH_eq, qD_in, aG_ref, aS_ref, aL_ref, pF_ref, cK_ref, cK_null, zI_lit, zJ_lit, zI_add, zI_sub, zI_mul, zI_neg, zI_eq, zI_lt, zI_le, Int.reduceLT, Int.reduceLE, Int.reduceAdd, Int.reduceSub, Int.reduceMul, Int.reduceNeg, Int.reduceEq, Int.reduceNe, reduceIte, jf_in, pFc_in, aGi, aGb, aSi, aLc_in, cKc_in, nA_in, jm_s1, jm_s2, jm_p1, jm_p2, jm_b, jn_b, jn_s, jn_p, jset_jset, jset_jpush2, ckR_is, ckr_is, rR_is, ckW_is, cR_is, obi2, ckW_int, eq_self, if_true, ref_null, if_false, ne_eq, not_true_eq_false, not_false_eq_true, decide_true, decide_false, decide_not, Bool.true_and, Bool.false_and, Bool.and_true, Bool.and_false, Bool.true_or, Bool.false_or, Bool.or_true, Bool.or_false, Bool.not_true, Bool.not_false, Bool.false_eq_true, bI_t, bI_f, Int.natCast_one, Int.cast_ofNat_Int, Int.natCast_zero, o23_0, o23_1, o23_2, o12_0, o12_1, o13_0, o13_1, o13_2, o13_3, o13_4, o13_5, o13_6, o14_0, o14_1, o14_2, o14_3, o14_4, o14_5, o3_0, o3_1, o3_2, o3_3, o3_4, o11_0, o11_1, o11_2, o11_3, o4_0, o4_1, o4_2, o4_3, o4_4, o4_5, o4_6, o5_0, o5_1, o5_2, o5_3, o5_4, o5_5, n5, o5s_0, o5s_1, o5s_2, o5s_3, o5s_4, o5s_5
section
variable {F : Nat → Option Cl} {d : Nat} {H H2 : AH} {a b e p q fb pb : Nat} {r t c k n f v x : Int} {cs S nm : Int → Int} {ra : Int → Nat} {wl : Nat} {g : Nat → Bool} {w : WS} {sp : Int → Int} {P : Nat → Prop}
theorem oth_eq (h : isOth S w x c = false) : celW (cellS S x) w x c = cellS S x c := by
  have := celW_oth (S := S) (w := w) (x := x) (c := c)
  rw [h] at this
  exact of_decide_eq_true this
theorem oth_ne (h : isOth S w x c = true) : ¬ celW (cellS S x) w x c = cellS S x c := by
  have := celW_oth (S := S) (w := w) (x := x) (c := c)
  rw [h] at this
  exact of_decide_eq_false this
theorem p_isMoved (h : PlW F H q a p S nm ra wl g w sp) (x0 : 0 ≤ x) (x1 : x < 99) (x2 : S (150 + x) = 1) (hf : RefF F fb f S) (f0 : 0 ≤ f) (f1 : f < S 2) :
    M2 (d + 3) 5010 [.ref p, .ref (ra x), .ref fb] H = some (.inl (some (bI (movW S f x w))), H) := by
  have W := h.2.2.1
  have hF := h.1
  have hw := h.2.2.2.2.1.2.2.2.2.2.2
  obtain ⟨K1, K2, -⟩ := W.key2 f0 f1
  have ky := W.key K1.1 K1.2
  have hrow := h.row x0 x1 x2
  obtain ⟨kb, ⟨ke, u1, ⟨gk, u2, u3, u4⟩⟩, hk⟩ := c_keyOf hF h.2.1 hf K1.1 K1.2
  have hk := hk d
  obtain ⟨re, rg, m1, m2, m3⟩ := id hrow
  have m1' := hF.m m1
  have m2' := hF.m m2
  have u1' := hF.m u1
  have u2' := hF.m u2
  obtain ⟨fe, y1, -⟩ := id hf
  have y1' := hF.m y1
  obtain ⟨ins, on, l1, l2, l3, wm, bs, ⟨s0, -⟩, -⟩ := id h.2.2.2.1
  have p0 := h.2.2.2.2.1.1
  -- one column
  have one : ∀ (i n : Int) (v7 : Value), 0 ≤ i → i < n → n ≤ 2 → n = (if S (52 + S (82 + f)) < 0 then 1 else 2) → 0 ≤ gk i → gk i < 4 → G2 (d + 2) 5010 22 [.ref p, .ref (ra x), .ref fb, .ref ke, .int (zI n), .int (zI i), v7] [] H = if isOth S w x (gk i) = true then some (.inl (some (bI true)), H) else G2 (d + 2) 5010 22 [.ref p, .ref (ra x), .ref fb, .ref ke, .int (zI n), .int (zI (i + 1)), .int (zI (gk i))] [] H := by
    intro i n v7 i0 i1 n2 hn g0 g1
    have cl := p_cell (d := d) hF h.2.2.2.2.1 hrow (W.csw x0 x1) x0 x1 g0 g1
    have cr := celW_rg W hw x0 x1 g0 g1
    have cr2 := W.cell x0 x1 g0 g1
    have m3' := m3 (gk i) g0 g1
    have lim : i < ((if S (52 + S (82 + f)) < 0 then 1 else 2 : Nat) : Int) := by
      by_cases h2 : S (52 + S (82 + f)) < 0
      · rw [if_pos h2] at hn ⊢; omega
      · rw [if_neg h2] at hn ⊢; omega
    have le2 : (if S (52 + S (82 + f)) < 0 then 1 else 2 : Nat) ≤ 2 := by split <;> omega
    conv => lhs; rw [F5010_22]
    simp (disch := first | assumption | omega | decide | exact okF_i | exact okF_r | exact okF_n | exact okF_j | rfl) only [jc_ref, rI_int, rR_ref, rR_null, rJ_long, ckR_ref, ckR_null, ckr_ref, ckr_null, ckW_int, ckW_ref, ckW_null, cI_ok, cR_ok, cR_null, cV_ok, cJ_ok, qH_eq, qD_in, aG_ref, aS_ref, aL_ref, pF_ref, cK_ref, cK_null, zI_lit, zJ_lit, zI_add, zI_sub, zI_mul, zI_neg, zI_eq, zI_lt, zI_le, Int.reduceLT, Int.reduceLE, Int.reduceAdd, Int.reduceSub, Int.reduceMul, Int.reduceNeg, Int.reduceEq, Int.reduceNe, reduceIte, jf_in, pFc_in, aGi, aGb, aSi, aLc_in, cKc_in, nA_in, jm_s1, jm_s2, jm_p1, jm_p2, jm_b, jn_b, jn_s, jn_p, jset_jset, jset_jpush2, ckR_is, ckr_is, rR_is, ckW_is, cR_is, obi2, ckW_int, eq_self, if_true, ref_null, if_false, ne_eq, not_true_eq_false, not_false_eq_true, decide_true, decide_false, decide_not, Bool.true_and, Bool.false_and, Bool.and_true, Bool.and_false, Bool.true_or, Bool.false_or, Bool.or_true, Bool.or_false, Bool.not_true, Bool.not_false, Bool.false_eq_true, bI_t, bI_f, Int.natCast_one, Int.cast_ofNat_Int, Int.natCast_zero, o23_0, o23_1, o23_2, o12_0, o12_1, o13_0, o13_1, o13_2, o13_3, o13_4, o13_5, o13_6, o14_0, o14_1, o14_2, o14_3, o14_4, o14_5, o3_0, o3_1, o3_2, o3_3, o3_4, o11_0, o11_1, o11_2, o11_3, o4_0, o4_1, o4_2, o4_3, o4_4, o4_5, o4_6, o5_0, o5_1, o5_2, o5_3, o5_4, o5_5, n5, o5s_0, o5s_1, o5s_2, o5s_3, o5s_4, o5s_5, u2', cl, m1', m2', m3']
    rw [if_neg (by omega)]
    cases ho : isOth S w x (gk i) with
    | true => rw [if_neg (oth_ne ho), if_pos rfl]
    | false => rw [if_pos (oth_eq ho), if_neg (by decide)]
  have key : (G2 (d + 2) 5010 22 [.ref p, .ref (ra x), .ref fb, .ref ke, .int (zI ((if S (52 + S (82 + f)) < 0 then 1 else 2 : Nat) : Int)), .int (zI 0), jno] [] H) = some (.inl (some (bI (movW S f x w))), H) := by
    unfold movW
    rw [← u3]
    by_cases h2 : S (52 + S (82 + f)) < 0
    · rw [if_pos h2]
      refine (one 0 1 jno (by omega) (by omega) (by omega) (by rw [if_pos h2]) (by omega) (by omega)).trans ?_
      rw [decide_eq_true h2, Bool.not_true, Bool.false_and, Bool.or_false]
      cases ho : isOth S w x (gk 0) with
      | true => rfl
      | false =>
        rw [if_neg (by decide), F5010_22]
        simp (disch := first | assumption | omega | decide | exact okF_i | exact okF_r | exact okF_n | exact okF_j | rfl) only [jc_ref, rI_int, rR_ref, rR_null, rJ_long, ckR_ref, ckR_null, ckr_ref, ckr_null, ckW_int, ckW_ref, ckW_null, cI_ok, cR_ok, cR_null, cV_ok, cJ_ok, qH_eq, qD_in, aG_ref, aS_ref, aL_ref, pF_ref, cK_ref, cK_null, zI_lit, zJ_lit, zI_add, zI_sub, zI_mul, zI_neg, zI_eq, zI_lt, zI_le, Int.reduceLT, Int.reduceLE, Int.reduceAdd, Int.reduceSub, Int.reduceMul, Int.reduceNeg, Int.reduceEq, Int.reduceNe, reduceIte, jf_in, pFc_in, aGi, aGb, aSi, aLc_in, cKc_in, nA_in, jm_s1, jm_s2, jm_p1, jm_p2, jm_b, jn_b, jn_s, jn_p, jset_jset, jset_jpush2, ckR_is, ckr_is, rR_is, ckW_is, cR_is, obi2, ckW_int, eq_self, if_true, ref_null, if_false, ne_eq, not_true_eq_false, not_false_eq_true, decide_true, decide_false, decide_not, Bool.true_and, Bool.false_and, Bool.and_true, Bool.and_false, Bool.true_or, Bool.false_or, Bool.or_true, Bool.or_false, Bool.not_true, Bool.not_false, Bool.false_eq_true, bI_t, bI_f, Int.natCast_one, Int.cast_ofNat_Int, Int.natCast_zero, o23_0, o23_1, o23_2, o12_0, o12_1, o13_0, o13_1, o13_2, o13_3, o13_4, o13_5, o13_6, o14_0, o14_1, o14_2, o14_3, o14_4, o14_5, o3_0, o3_1, o3_2, o3_3, o3_4, o11_0, o11_1, o11_2, o11_3, o4_0, o4_1, o4_2, o4_3, o4_4, o4_5, o4_6, o5_0, o5_1, o5_2, o5_3, o5_4, o5_5, n5, o5s_0, o5s_1, o5s_2, o5s_3, o5s_4, o5s_5]
    · have u4 := u4 (by omega)
      rw [if_neg h2, ← u4]
      refine (one 0 2 jno (by omega) (by omega) (by omega) (by rw [if_neg h2]) (by omega) (by omega)).trans ?_
      rw [u4, decide_eq_false h2, Bool.not_false, Bool.true_and]
      cases ho : isOth S w x (gk 0) with
      | true => rfl
      | false =>
        rw [if_neg (by decide), Bool.false_or]
        refine (one 1 2 _ (by omega) (by omega) (by omega) (by rw [if_neg h2]) (by omega) (by omega)).trans ?_
        rw [u4]
        cases ho2 : isOth S w x (S (52 + S (82 + f))) with
        | true => rfl
        | false =>
          rw [if_neg (by decide), F5010_22]
          simp (disch := first | assumption | omega | decide | exact okF_i | exact okF_r | exact okF_n | exact okF_j | rfl) only [jc_ref, rI_int, rR_ref, rR_null, rJ_long, ckR_ref, ckR_null, ckr_ref, ckr_null, ckW_int, ckW_ref, ckW_null, cI_ok, cR_ok, cR_null, cV_ok, cJ_ok, qH_eq, qD_in, aG_ref, aS_ref, aL_ref, pF_ref, cK_ref, cK_null, zI_lit, zJ_lit, zI_add, zI_sub, zI_mul, zI_neg, zI_eq, zI_lt, zI_le, Int.reduceLT, Int.reduceLE, Int.reduceAdd, Int.reduceSub, Int.reduceMul, Int.reduceNeg, Int.reduceEq, Int.reduceNe, reduceIte, jf_in, pFc_in, aGi, aGb, aSi, aLc_in, cKc_in, nA_in, jm_s1, jm_s2, jm_p1, jm_p2, jm_b, jn_b, jn_s, jn_p, jset_jset, jset_jpush2, ckR_is, ckr_is, rR_is, ckW_is, cR_is, obi2, ckW_int, eq_self, if_true, ref_null, if_false, ne_eq, not_true_eq_false, not_false_eq_true, decide_true, decide_false, decide_not, Bool.true_and, Bool.false_and, Bool.and_true, Bool.and_false, Bool.true_or, Bool.false_or, Bool.or_true, Bool.or_false, Bool.not_true, Bool.not_false, Bool.false_eq_true, bI_t, bI_f, Int.natCast_one, Int.cast_ofNat_Int, Int.natCast_zero, o23_0, o23_1, o23_2, o12_0, o12_1, o13_0, o13_1, o13_2, o13_3, o13_4, o13_5, o13_6, o14_0, o14_1, o14_2, o14_3, o14_4, o14_5, o3_0, o3_1, o3_2, o3_3, o3_4, o11_0, o11_1, o11_2, o11_3, o4_0, o4_1, o4_2, o4_3, o4_4, o4_5, o4_6, o5_0, o5_1, o5_2, o5_3, o5_4, o5_5, n5, o5s_0, o5s_1, o5s_2, o5s_3, o5s_4, o5s_5]
  rw [Y5010 H rfl rfl (jrecv_in p0 rfl), F5010_0]
  simp (disch := first | assumption | omega | decide | exact okF_i | exact okF_r | exact okF_n | exact okF_j | rfl) only [jc_ref, rI_int, rR_ref, rR_null, rJ_long, ckR_ref, ckR_null, ckr_ref, ckr_null, ckW_int, ckW_ref, ckW_null, cI_ok, cR_ok, cR_null, cV_ok, cJ_ok, qH_eq, qD_in, aG_ref, aS_ref, aL_ref, pF_ref, cK_ref, cK_null, zI_lit, zJ_lit, zI_add, zI_sub, zI_mul, zI_neg, zI_eq, zI_lt, zI_le, Int.reduceLT, Int.reduceLE, Int.reduceAdd, Int.reduceSub, Int.reduceMul, Int.reduceNeg, Int.reduceEq, Int.reduceNe, reduceIte, jf_in, pFc_in, aGi, aGb, aSi, aLc_in, cKc_in, nA_in, jm_s1, jm_s2, jm_p1, jm_p2, jm_b, jn_b, jn_s, jn_p, jset_jset, jset_jpush2, ckR_is, ckr_is, rR_is, ckW_is, cR_is, obi2, ckW_int, eq_self, if_true, ref_null, if_false, ne_eq, not_true_eq_false, not_false_eq_true, decide_true, decide_false, decide_not, Bool.true_and, Bool.false_and, Bool.and_true, Bool.and_false, Bool.true_or, Bool.false_or, Bool.or_true, Bool.or_false, Bool.not_true, Bool.not_false, Bool.false_eq_true, bI_t, bI_f, Int.natCast_one, Int.cast_ofNat_Int, Int.natCast_zero, o23_0, o23_1, o23_2, o12_0, o12_1, o13_0, o13_1, o13_2, o13_3, o13_4, o13_5, o13_6, o14_0, o14_1, o14_2, o14_3, o14_4, o14_5, o3_0, o3_1, o3_2, o3_3, o3_4, o11_0, o11_1, o11_2, o11_3, o4_0, o4_1, o4_2, o4_3, o4_4, o4_5, o4_6, o5_0, o5_1, o5_2, o5_3, o5_4, o5_5, n5, o5s_0, o5s_1, o5s_2, o5s_3, o5s_4, o5s_5, p0, s0, hk, u1', u2']
  exact key
theorem p_changes (h : PlW F H q a p S nm ra wl g w sp) (r0 : 0 ≤ r) (r1 : r < 99) (r2 : S (150 + r) = 1) (x0 : 0 ≤ x) (x1 : x < 99) (x2 : S (150 + x) = 1) (hf : RefF F fb f S) (f0 : 0 ≤ f) (f1 : f < S 2) :
    ∃ H2, M2 (d + 3) 5003 [.ref p, .ref (ra r), .ref fb, .ref (ra x)] H = some (.inl none, H2) ∧ PlW F H2 q a p S nm ra wl g (chgW S r f x w) sp ∧ Fr H H2 (PlP p) ∧ H2.1 = H.1 ∧ H2.2.1 = H.2.1 := by
  have W := h.2.2.1
  obtain ⟨K1, K2, -⟩ := W.key2 f0 f1
  have ky := W.key K1.1 K1.2
  obtain ⟨a1, a2, a3, -, -, a6⟩ := W.ref f0 f1
  obtain ⟨kb, ⟨ke, u1, ⟨gk, u2, u3, u4⟩⟩, hk⟩ := c_keyOf h.1 h.2.1 hf K1.1 K1.2
  have hk := hk d
  obtain ⟨fe, y1, ⟨gf, y2, y3, y4⟩⟩ := id hf
  have hrow := h.row x0 x1 x2
  have hrr := h.row r0 r1 r2
  obtain ⟨xe, xg, m1, m2, m3⟩ := id hrow
  obtain ⟨re, rg, n1, n2, n3⟩ := id hrr
  have one : ∀ (H : AH) (w : WS) (i n : Int), PlW F H q a p S nm ra wl g w sp → 0 ≤ i → i < n → n ≤ 2 → n = (if S (52 + S (82 + f)) < 0 then 1 else 2) → 0 ≤ gk i → gk i < 4 → 0 ≤ gf i → gf i < 4 → ∃ H2, G2 (d + 2) 5003 19 [.ref p, .ref (ra r), .ref fb, .ref (ra x), .ref ke, .int (zI i)] [] H = G2 (d + 2) 5003 19 [.ref p, .ref (ra r), .ref fb, .ref (ra x), .ref ke, .int (zI (i + 1))] [] H2 ∧ PlW F H2 q a p S nm ra wl g (if isOth S w x (gk i) = true then want1 w (4 * r + gf i) (w.1 (4 * x + gk i)) else w) sp ∧ Fr H H2 (PlP p) ∧ H2.1 = H.1 ∧ H2.2.1 = H.2.1 := by
    intro H w i n h i0 i1 i2 hn g0 g1 g2 g3
    have hF := h.1
    have hw := h.2.2.2.2.1.2.2.2.2.2.2
    have m1' := hF.m m1
    have m2' := hF.m m2
    have n1' := hF.m n1
    have y1' := hF.m y1
    have y2' := hF.m y2
    have u2' := hF.m u2
    have cl := p_cell (d := d) hF h.2.2.2.2.1 hrow (W.csw x0 x1) x0 x1 g0 g1
    have cr := celW_rg W hw x0 x1 g0 g1
    have cr2 := W.cell x0 x1 g0 g1
    have m3' := m3 (gk i) g0 g1
    have lim : i < ((if S (52 + S (82 + f)) < 0 then 1 else 2 : Nat) : Int) := by
      by_cases h2 : S (52 + S (82 + f)) < 0
      · rw [if_pos h2] at hn ⊢; omega
      · rw [if_neg h2] at hn ⊢; omega
    have lim2 : i < ((if S (70 + f) < 0 then 1 else 2 : Nat) : Int) := by
      by_cases h2 : S (70 + f) < 0
      · rw [if_pos h2]; rw [if_pos (K2.mpr h2)] at lim; exact lim
      · rw [if_neg h2]; rw [if_neg (fun z => h2 (K2.mp z))] at lim; exact lim
    have le2 : (if S (52 + S (82 + f)) < 0 then 1 else 2 : Nat) ≤ 2 := by split <;> omega
    have le3 : (if S (70 + f) < 0 then 1 else 2 : Nat) ≤ 2 := by split <;> omega
    cases ho : isOth S w x (gk i) with
    | true =>
      have cv := celW_v ho
      rw [cv] at cl cr
      have ne := oth_ne ho
      rw [cv] at ne
      obtain ⟨H2, z1, z2, z3, z4, z5⟩ := p_wants (d := d) h.2.2.2.2.1 n1' r0 r1 g2 g3 cr.1 cr.2
      rw [if_pos rfl]
      refine ⟨H2, ?_, h.st z2 (z3.mono fun _ _ z => PlP.of03 z), z3.mono fun _ _ z => PlP.of03 z, z4, z5⟩
      conv => lhs; rw [F5003_19]
      simp (disch := first | assumption | omega | decide | exact okF_i | exact okF_r | exact okF_n | exact okF_j | rfl) only [jc_ref, rI_int, rR_ref, rR_null, rJ_long, ckR_ref, ckR_null, ckr_ref, ckr_null, ckW_int, ckW_ref, ckW_null, cI_ok, cR_ok, cR_null, cV_ok, cJ_ok, qH_eq, qD_in, aG_ref, aS_ref, aL_ref, pF_ref, cK_ref, cK_null, zI_lit, zJ_lit, zI_add, zI_sub, zI_mul, zI_neg, zI_eq, zI_lt, zI_le, Int.reduceLT, Int.reduceLE, Int.reduceAdd, Int.reduceSub, Int.reduceMul, Int.reduceNeg, Int.reduceEq, Int.reduceNe, reduceIte, jf_in, pFc_in, aGi, aGb, aSi, aLc_in, cKc_in, nA_in, jm_s1, jm_s2, jm_p1, jm_p2, jm_b, jn_b, jn_s, jn_p, jset_jset, jset_jpush2, ckR_is, ckr_is, rR_is, ckW_is, cR_is, obi2, ckW_int, eq_self, if_true, ref_null, if_false, ne_eq, not_true_eq_false, not_false_eq_true, decide_true, decide_false, decide_not, Bool.true_and, Bool.false_and, Bool.and_true, Bool.and_false, Bool.true_or, Bool.false_or, Bool.or_true, Bool.or_false, Bool.not_true, Bool.not_false, Bool.false_eq_true, bI_t, bI_f, Int.natCast_one, Int.cast_ofNat_Int, Int.natCast_zero, o23_0, o23_1, o23_2, o12_0, o12_1, o13_0, o13_1, o13_2, o13_3, o13_4, o13_5, o13_6, o14_0, o14_1, o14_2, o14_3, o14_4, o14_5, o3_0, o3_1, o3_2, o3_3, o3_4, o11_0, o11_1, o11_2, o11_3, o4_0, o4_1, o4_2, o4_3, o4_4, o4_5, o4_6, o5_0, o5_1, o5_2, o5_3, o5_4, o5_5, n5, o5s_0, o5s_1, o5s_2, o5s_3, o5s_4, o5s_5, u2', cl, m1', m2', m3', y1', y2', z1]
      rw [if_neg (by omega), if_neg ne]
    | false =>
      have ce := oth_eq ho
      rw [if_neg (by decide)]
      refine ⟨H, ?_, h, Fr.rf, rfl, rfl⟩
      conv => lhs; rw [F5003_19]
      simp (disch := first | assumption | omega | decide | exact okF_i | exact okF_r | exact okF_n | exact okF_j | rfl) only [jc_ref, rI_int, rR_ref, rR_null, rJ_long, ckR_ref, ckR_null, ckr_ref, ckr_null, ckW_int, ckW_ref, ckW_null, cI_ok, cR_ok, cR_null, cV_ok, cJ_ok, qH_eq, qD_in, aG_ref, aS_ref, aL_ref, pF_ref, cK_ref, cK_null, zI_lit, zJ_lit, zI_add, zI_sub, zI_mul, zI_neg, zI_eq, zI_lt, zI_le, Int.reduceLT, Int.reduceLE, Int.reduceAdd, Int.reduceSub, Int.reduceMul, Int.reduceNeg, Int.reduceEq, Int.reduceNe, reduceIte, jf_in, pFc_in, aGi, aGb, aSi, aLc_in, cKc_in, nA_in, jm_s1, jm_s2, jm_p1, jm_p2, jm_b, jn_b, jn_s, jn_p, jset_jset, jset_jpush2, ckR_is, ckr_is, rR_is, ckW_is, cR_is, obi2, ckW_int, eq_self, if_true, ref_null, if_false, ne_eq, not_true_eq_false, not_false_eq_true, decide_true, decide_false, decide_not, Bool.true_and, Bool.false_and, Bool.and_true, Bool.and_false, Bool.true_or, Bool.false_or, Bool.or_true, Bool.or_false, Bool.not_true, Bool.not_false, Bool.false_eq_true, bI_t, bI_f, Int.natCast_one, Int.cast_ofNat_Int, Int.natCast_zero, o23_0, o23_1, o23_2, o12_0, o12_1, o13_0, o13_1, o13_2, o13_3, o13_4, o13_5, o13_6, o14_0, o14_1, o14_2, o14_3, o14_4, o14_5, o3_0, o3_1, o3_2, o3_3, o3_4, o11_0, o11_1, o11_2, o11_3, o4_0, o4_1, o4_2, o4_3, o4_4, o4_5, o4_6, o5_0, o5_1, o5_2, o5_3, o5_4, o5_5, n5, o5s_0, o5s_1, o5s_2, o5s_3, o5s_4, o5s_5, u2', cl, m1', m2', m3', ce]
      rw [if_neg (by omega)]
  have fin : ∀ (H : AH) (i : Int), Fzn F H → i = ((if S (52 + S (82 + f)) < 0 then 1 else 2 : Nat) : Int) → G2 (d + 2) 5003 19 [.ref p, .ref (ra r), .ref fb, .ref (ra x), .ref ke, .int (zI i)] [] H = some (.inl none, H) := fun H i hF hi => by
    have u2' := hF.m u2
    have le2 : (if S (52 + S (82 + f)) < 0 then 1 else 2 : Nat) ≤ 2 := by split <;> omega
    rw [F5003_19]
    simp (disch := first | assumption | omega | decide | exact okF_i | exact okF_r | exact okF_n | exact okF_j | rfl) only [jc_ref, rI_int, rR_ref, rR_null, rJ_long, ckR_ref, ckR_null, ckr_ref, ckr_null, ckW_int, ckW_ref, ckW_null, cI_ok, cR_ok, cR_null, cV_ok, cJ_ok, qH_eq, qD_in, aG_ref, aS_ref, aL_ref, pF_ref, cK_ref, cK_null, zI_lit, zJ_lit, zI_add, zI_sub, zI_mul, zI_neg, zI_eq, zI_lt, zI_le, Int.reduceLT, Int.reduceLE, Int.reduceAdd, Int.reduceSub, Int.reduceMul, Int.reduceNeg, Int.reduceEq, Int.reduceNe, reduceIte, jf_in, pFc_in, aGi, aGb, aSi, aLc_in, cKc_in, nA_in, jm_s1, jm_s2, jm_p1, jm_p2, jm_b, jn_b, jn_s, jn_p, jset_jset, jset_jpush2, ckR_is, ckr_is, rR_is, ckW_is, cR_is, obi2, ckW_int, eq_self, if_true, ref_null, if_false, ne_eq, not_true_eq_false, not_false_eq_true, decide_true, decide_false, decide_not, Bool.true_and, Bool.false_and, Bool.and_true, Bool.and_false, Bool.true_or, Bool.false_or, Bool.or_true, Bool.or_false, Bool.not_true, Bool.not_false, Bool.false_eq_true, bI_t, bI_f, Int.natCast_one, Int.cast_ofNat_Int, Int.natCast_zero, o23_0, o23_1, o23_2, o12_0, o12_1, o13_0, o13_1, o13_2, o13_3, o13_4, o13_5, o13_6, o14_0, o14_1, o14_2, o14_3, o14_4, o14_5, o3_0, o3_1, o3_2, o3_3, o3_4, o11_0, o11_1, o11_2, o11_3, o4_0, o4_1, o4_2, o4_3, o4_4, o4_5, o4_6, o5_0, o5_1, o5_2, o5_3, o5_4, o5_5, n5, o5s_0, o5s_1, o5s_2, o5s_3, o5s_4, o5s_5, u2', hi]
    rw [if_pos (Int.le_refl _)]
  have hF := h.1
  have u1' := hF.m u1
  obtain ⟨ins, on, l1, l2, l3, wm, bs, ⟨s0, -⟩, -⟩ := id h.2.2.2.1
  have p0 := h.2.2.2.2.1.1
  have st : ∀ R, G2 (d + 2) 5003 19 [.ref p, .ref (ra r), .ref fb, .ref (ra x), .ref ke, .int (zI 0)] [] H = R → M2 (d + 3) 5003 [.ref p, .ref (ra r), .ref fb, .ref (ra x)] H = R := fun R hR => by
    rw [← hR, Y5003 H rfl rfl rfl (jrecv_in p0 rfl), F5003_0]
    have y1' := hF.m y1
    simp (disch := first | assumption | omega | decide | exact okF_i | exact okF_r | exact okF_n | exact okF_j | rfl) only [jc_ref, rI_int, rR_ref, rR_null, rJ_long, ckR_ref, ckR_null, ckr_ref, ckr_null, ckW_int, ckW_ref, ckW_null, cI_ok, cR_ok, cR_null, cV_ok, cJ_ok, qH_eq, qD_in, aG_ref, aS_ref, aL_ref, pF_ref, cK_ref, cK_null, zI_lit, zJ_lit, zI_add, zI_sub, zI_mul, zI_neg, zI_eq, zI_lt, zI_le, Int.reduceLT, Int.reduceLE, Int.reduceAdd, Int.reduceSub, Int.reduceMul, Int.reduceNeg, Int.reduceEq, Int.reduceNe, reduceIte, jf_in, pFc_in, aGi, aGb, aSi, aLc_in, cKc_in, nA_in, jm_s1, jm_s2, jm_p1, jm_p2, jm_b, jn_b, jn_s, jn_p, jset_jset, jset_jpush2, ckR_is, ckr_is, rR_is, ckW_is, cR_is, obi2, ckW_int, eq_self, if_true, ref_null, if_false, ne_eq, not_true_eq_false, not_false_eq_true, decide_true, decide_false, decide_not, Bool.true_and, Bool.false_and, Bool.and_true, Bool.and_false, Bool.true_or, Bool.false_or, Bool.or_true, Bool.or_false, Bool.not_true, Bool.not_false, Bool.false_eq_true, bI_t, bI_f, Int.natCast_one, Int.cast_ofNat_Int, Int.natCast_zero, o23_0, o23_1, o23_2, o12_0, o12_1, o13_0, o13_1, o13_2, o13_3, o13_4, o13_5, o13_6, o14_0, o14_1, o14_2, o14_3, o14_4, o14_5, o3_0, o3_1, o3_2, o3_3, o3_4, o11_0, o11_1, o11_2, o11_3, o4_0, o4_1, o4_2, o4_3, o4_4, o4_5, o4_6, o5_0, o5_1, o5_2, o5_3, o5_4, o5_5, n5, o5s_0, o5s_1, o5s_2, o5s_3, o5s_4, o5s_5, p0, s0, hk, u1']
  by_cases h2 : S (52 + S (82 + f)) < 0
  · obtain ⟨H2, o1, o2, o3, o4', o5⟩ := one H w 0 1 h (by omega) (by omega) (by omega) (by rw [if_pos h2]) (by omega) (by omega) (by omega) (by omega)
    refine ⟨H2, st _ (o1.trans (fin H2 1 o2.1 (by rw [if_pos h2]; rfl))), ?_, o3, o4', o5⟩
    unfold chgW
    simp only [decide_eq_true h2, Bool.not_true, Bool.false_and, Bool.false_eq_true, if_false]
    rw [← u3, ← y3]
    exact o2
  · have h3 : ¬ S (70 + f) < 0 := fun z => h2 (K2.mpr z)
    have u4 := u4 (by omega)
    have y4 := y4 (by omega)
    obtain ⟨H2, o1, o2, o3, o4', o5⟩ := one H w 0 2 h (by omega) (by omega) (by omega) (by rw [if_neg h2]) (by omega) (by omega) (by omega) (by omega)
    obtain ⟨H3, b1, b2, b3, b4, b5⟩ := one H2 _ 1 2 o2 (by omega) (by omega) (by omega) (by rw [if_neg h2]) (by omega) (by omega) (by omega) (by omega)
    refine ⟨H3, st _ (o1.trans (b1.trans (fin H3 2 b2.1 (by rw [if_neg h2]; rfl)))), ?_, o3.tr b3, b4.trans o4', b5.trans o5⟩
    unfold chgW
    simp only [decide_eq_false h2, Bool.not_false, Bool.true_and]
    rw [← u3, ← y3, ← u4, ← y4]
    exact b2
/-- a row comes to a reference -/
theorem p_comesTo (h : PlW F H q a p S nm ra wl g w sp) (r0 : 0 ≤ r) (r1 : r < 99) (r2 : S (150 + r) = 1) (hf : RefF F fb f S) (f0 : 0 ≤ f) (f1 : f < S 2) :
    ∃ H2, M2 (d + 4) 5005 [.ref p, .ref (ra r), .ref fb] H = some (.inl none, H2) ∧ PlW F H2 q a p S nm ra wl g (com1 S g r f (if S (249 + r) = S (58 + f) then tgtS S r f else -1) w) sp ∧ Fr H H2 (PlP p) ∧ H2.1 = H.1 ∧ H2.2.1 = H.2.1 := by
  have W := h.2.2.1
  have hF := h.1
  obtain ⟨K1, K2, k3, k4, -⟩ := W.key2 f0 f1
  have hrr := h.row r0 r1 r2
  have pr := c_parent (d := d) W hF h.2.1 h.sq hrr r0 r1 hf f0 f1
  obtain ⟨fe, y1, -⟩ := id hf
  have y1' := hF.m y1
  obtain ⟨ins, on, l1, l2, l3, wm, bs, ⟨s0, -⟩, -⟩ := id h.2.2.2.1
  have p0 := h.2.2.2.2.1.1
  unfold com1
  by_cases ht : S (249 + r) = S (58 + f)
  · rw [if_pos ht] at pr ⊢
    by_cases hq : tgtS S r f < 0
    · rw [if_pos hq]
      refine ⟨H, ?_, h, Fr.rf, rfl, rfl⟩
      have e1 : prV ra (tgtS S r f) = .null := by unfold prV; rw [if_pos hq]
      rw [e1] at pr
      rw [Y5005 H rfl rfl (jrecv_in p0 rfl), F5005_0]
      simp (disch := first | assumption | omega | decide | exact okF_i | exact okF_r | exact okF_n | exact okF_j | rfl) only [jc_ref, rI_int, rR_ref, rR_null, rJ_long, ckR_ref, ckR_null, ckr_ref, ckr_null, ckW_int, ckW_ref, ckW_null, cI_ok, cR_ok, cR_null, cV_ok, cJ_ok, qH_eq, qD_in, aG_ref, aS_ref, aL_ref, pF_ref, cK_ref, cK_null, zI_lit, zJ_lit, zI_add, zI_sub, zI_mul, zI_neg, zI_eq, zI_lt, zI_le, Int.reduceLT, Int.reduceLE, Int.reduceAdd, Int.reduceSub, Int.reduceMul, Int.reduceNeg, Int.reduceEq, Int.reduceNe, reduceIte, jf_in, pFc_in, aGi, aGb, aSi, aLc_in, cKc_in, nA_in, jm_s1, jm_s2, jm_p1, jm_p2, jm_b, jn_b, jn_s, jn_p, jset_jset, jset_jpush2, ckR_is, ckr_is, rR_is, ckW_is, cR_is, obi2, ckW_int, eq_self, if_true, ref_null, if_false, ne_eq, not_true_eq_false, not_false_eq_true, decide_true, decide_false, decide_not, Bool.true_and, Bool.false_and, Bool.and_true, Bool.and_false, Bool.true_or, Bool.false_or, Bool.or_true, Bool.or_false, Bool.not_true, Bool.not_false, Bool.false_eq_true, bI_t, bI_f, Int.natCast_one, Int.cast_ofNat_Int, Int.natCast_zero, o23_0, o23_1, o23_2, o12_0, o12_1, o13_0, o13_1, o13_2, o13_3, o13_4, o13_5, o13_6, o14_0, o14_1, o14_2, o14_3, o14_4, o14_5, o3_0, o3_1, o3_2, o3_3, o3_4, o11_0, o11_1, o11_2, o11_3, o4_0, o4_1, o4_2, o4_3, o4_4, o4_5, o4_6, o5_0, o5_1, o5_2, o5_3, o5_4, o5_5, n5, o5s_0, o5s_1, o5s_2, o5s_3, o5s_4, o5s_5, p0, pr]
    · have e1 : prV ra (tgtS S r f) = .ref (ra (tgtS S r f)) := by unfold prV; rw [if_neg hq]
      rw [e1] at pr
      rw [if_neg hq]
      obtain ⟨x2, x1⟩ := tgt_al (S := S) (r := r) (f := f) (by omega)
      have x0 : 0 ≤ tgtS S r f := by omega
      generalize tgtS S r f = x at *
      have gs := p_goes (d := d + 1) hF h.2.2.2.2.1 (h.row x0 x1 x2) x0 x1
      cases hg : g x.toNat with
      | true =>
        rw [hg] at gs
        rw [if_pos rfl]
        by_cases ho : S (88 + f) ≤ 1
        · rw [if_pos ho]
          refine ⟨H, ?_, h, Fr.rf, rfl, rfl⟩
          rw [Y5005 H rfl rfl (jrecv_in p0 rfl), F5005_0]
          simp (disch := first | assumption | omega | decide | exact okF_i | exact okF_r | exact okF_n | exact okF_j | rfl) only [jc_ref, rI_int, rR_ref, rR_null, rJ_long, ckR_ref, ckR_null, ckr_ref, ckr_null, ckW_int, ckW_ref, ckW_null, cI_ok, cR_ok, cR_null, cV_ok, cJ_ok, qH_eq, qD_in, aG_ref, aS_ref, aL_ref, pF_ref, cK_ref, cK_null, zI_lit, zJ_lit, zI_add, zI_sub, zI_mul, zI_neg, zI_eq, zI_lt, zI_le, Int.reduceLT, Int.reduceLE, Int.reduceAdd, Int.reduceSub, Int.reduceMul, Int.reduceNeg, Int.reduceEq, Int.reduceNe, reduceIte, jf_in, pFc_in, aGi, aGb, aSi, aLc_in, cKc_in, nA_in, jm_s1, jm_s2, jm_p1, jm_p2, jm_b, jn_b, jn_s, jn_p, jset_jset, jset_jpush2, ckR_is, ckr_is, rR_is, ckW_is, cR_is, obi2, ckW_int, eq_self, if_true, ref_null, if_false, ne_eq, not_true_eq_false, not_false_eq_true, decide_true, decide_false, decide_not, Bool.true_and, Bool.false_and, Bool.and_true, Bool.and_false, Bool.true_or, Bool.false_or, Bool.or_true, Bool.or_false, Bool.not_true, Bool.not_false, Bool.false_eq_true, bI_t, bI_f, Int.natCast_one, Int.cast_ofNat_Int, Int.natCast_zero, o23_0, o23_1, o23_2, o12_0, o12_1, o13_0, o13_1, o13_2, o13_3, o13_4, o13_5, o13_6, o14_0, o14_1, o14_2, o14_3, o14_4, o14_5, o3_0, o3_1, o3_2, o3_3, o3_4, o11_0, o11_1, o11_2, o11_3, o4_0, o4_1, o4_2, o4_3, o4_4, o4_5, o4_6, o5_0, o5_1, o5_2, o5_3, o5_4, o5_5, n5, o5s_0, o5s_1, o5s_2, o5s_3, o5s_4, o5s_5, p0, pr, gs, y1']
          rw [if_pos (by omega)]
        · rw [if_neg ho]
          obtain ⟨H2, z1, z2, z3, z4, z5⟩ := p_clears (d := d) h r0 r1 r2 hf f0 f1 ht (by_ := S (88 + f)) (by omega)
          refine ⟨H2, ?_, z2, z3, z4, z5⟩
          rw [Y5005 H rfl rfl (jrecv_in p0 rfl), F5005_0]
          simp (disch := first | assumption | omega | decide | exact okF_i | exact okF_r | exact okF_n | exact okF_j | rfl) only [jc_ref, rI_int, rR_ref, rR_null, rJ_long, ckR_ref, ckR_null, ckr_ref, ckr_null, ckW_int, ckW_ref, ckW_null, cI_ok, cR_ok, cR_null, cV_ok, cJ_ok, qH_eq, qD_in, aG_ref, aS_ref, aL_ref, pF_ref, cK_ref, cK_null, zI_lit, zJ_lit, zI_add, zI_sub, zI_mul, zI_neg, zI_eq, zI_lt, zI_le, Int.reduceLT, Int.reduceLE, Int.reduceAdd, Int.reduceSub, Int.reduceMul, Int.reduceNeg, Int.reduceEq, Int.reduceNe, reduceIte, jf_in, pFc_in, aGi, aGb, aSi, aLc_in, cKc_in, nA_in, jm_s1, jm_s2, jm_p1, jm_p2, jm_b, jn_b, jn_s, jn_p, jset_jset, jset_jpush2, ckR_is, ckr_is, rR_is, ckW_is, cR_is, obi2, ckW_int, eq_self, if_true, ref_null, if_false, ne_eq, not_true_eq_false, not_false_eq_true, decide_true, decide_false, decide_not, Bool.true_and, Bool.false_and, Bool.and_true, Bool.and_false, Bool.true_or, Bool.false_or, Bool.or_true, Bool.or_false, Bool.not_true, Bool.not_false, Bool.false_eq_true, bI_t, bI_f, Int.natCast_one, Int.cast_ofNat_Int, Int.natCast_zero, o23_0, o23_1, o23_2, o12_0, o12_1, o13_0, o13_1, o13_2, o13_3, o13_4, o13_5, o13_6, o14_0, o14_1, o14_2, o14_3, o14_4, o14_5, o3_0, o3_1, o3_2, o3_3, o3_4, o11_0, o11_1, o11_2, o11_3, o4_0, o4_1, o4_2, o4_3, o4_4, o4_5, o4_6, o5_0, o5_1, o5_2, o5_3, o5_4, o5_5, n5, o5s_0, o5s_1, o5s_2, o5s_3, o5s_4, o5s_5, p0, pr, gs, y1', z1]
          rw [if_neg (by omega)]
      | false =>
        rw [hg] at gs
        rw [if_neg (by decide)]
        have mv := p_isMoved (d := d) h x0 x1 x2 hf f0 f1
        cases hm : movW S f x w with
        | false =>
          rw [hm] at mv
          rw [if_pos rfl]
          refine ⟨H, ?_, h, Fr.rf, rfl, rfl⟩
          rw [Y5005 H rfl rfl (jrecv_in p0 rfl), F5005_0]
          simp (disch := first | assumption | omega | decide | exact okF_i | exact okF_r | exact okF_n | exact okF_j | rfl) only [jc_ref, rI_int, rR_ref, rR_null, rJ_long, ckR_ref, ckR_null, ckr_ref, ckr_null, ckW_int, ckW_ref, ckW_null, cI_ok, cR_ok, cR_null, cV_ok, cJ_ok, qH_eq, qD_in, aG_ref, aS_ref, aL_ref, pF_ref, cK_ref, cK_null, zI_lit, zJ_lit, zI_add, zI_sub, zI_mul, zI_neg, zI_eq, zI_lt, zI_le, Int.reduceLT, Int.reduceLE, Int.reduceAdd, Int.reduceSub, Int.reduceMul, Int.reduceNeg, Int.reduceEq, Int.reduceNe, reduceIte, jf_in, pFc_in, aGi, aGb, aSi, aLc_in, cKc_in, nA_in, jm_s1, jm_s2, jm_p1, jm_p2, jm_b, jn_b, jn_s, jn_p, jset_jset, jset_jpush2, ckR_is, ckr_is, rR_is, ckW_is, cR_is, obi2, ckW_int, eq_self, if_true, ref_null, if_false, ne_eq, not_true_eq_false, not_false_eq_true, decide_true, decide_false, decide_not, Bool.true_and, Bool.false_and, Bool.and_true, Bool.and_false, Bool.true_or, Bool.false_or, Bool.or_true, Bool.or_false, Bool.not_true, Bool.not_false, Bool.false_eq_true, bI_t, bI_f, Int.natCast_one, Int.cast_ofNat_Int, Int.natCast_zero, o23_0, o23_1, o23_2, o12_0, o12_1, o13_0, o13_1, o13_2, o13_3, o13_4, o13_5, o13_6, o14_0, o14_1, o14_2, o14_3, o14_4, o14_5, o3_0, o3_1, o3_2, o3_3, o3_4, o11_0, o11_1, o11_2, o11_3, o4_0, o4_1, o4_2, o4_3, o4_4, o4_5, o4_6, o5_0, o5_1, o5_2, o5_3, o5_4, o5_5, n5, o5s_0, o5s_1, o5s_2, o5s_3, o5s_4, o5s_5, p0, pr, gs, mv]
        | true =>
          rw [hm] at mv
          rw [if_neg (by decide)]
          by_cases ho : S (94 + f) = 1
          · rw [if_pos ho]
            obtain ⟨H2, z1, z2, z3, z4, z5⟩ := p_changes (d := d) h r0 r1 r2 x0 x1 x2 hf f0 f1
            have y1'' := z2.1.m y1
            refine ⟨H2, ?_, z2, z3, z4, z5⟩
            rw [Y5005 H rfl rfl (jrecv_in p0 rfl), F5005_0]
            simp (disch := first | assumption | omega | decide | exact okF_i | exact okF_r | exact okF_n | exact okF_j | rfl) only [jc_ref, rI_int, rR_ref, rR_null, rJ_long, ckR_ref, ckR_null, ckr_ref, ckr_null, ckW_int, ckW_ref, ckW_null, cI_ok, cR_ok, cR_null, cV_ok, cJ_ok, qH_eq, qD_in, aG_ref, aS_ref, aL_ref, pF_ref, cK_ref, cK_null, zI_lit, zJ_lit, zI_add, zI_sub, zI_mul, zI_neg, zI_eq, zI_lt, zI_le, Int.reduceLT, Int.reduceLE, Int.reduceAdd, Int.reduceSub, Int.reduceMul, Int.reduceNeg, Int.reduceEq, Int.reduceNe, reduceIte, jf_in, pFc_in, aGi, aGb, aSi, aLc_in, cKc_in, nA_in, jm_s1, jm_s2, jm_p1, jm_p2, jm_b, jn_b, jn_s, jn_p, jset_jset, jset_jpush2, ckR_is, ckr_is, rR_is, ckW_is, cR_is, obi2, ckW_int, eq_self, if_true, ref_null, if_false, ne_eq, not_true_eq_false, not_false_eq_true, decide_true, decide_false, decide_not, Bool.true_and, Bool.false_and, Bool.and_true, Bool.and_false, Bool.true_or, Bool.false_or, Bool.or_true, Bool.or_false, Bool.not_true, Bool.not_false, Bool.false_eq_true, bI_t, bI_f, Int.natCast_one, Int.cast_ofNat_Int, Int.natCast_zero, o23_0, o23_1, o23_2, o12_0, o12_1, o13_0, o13_1, o13_2, o13_3, o13_4, o13_5, o13_6, o14_0, o14_1, o14_2, o14_3, o14_4, o14_5, o3_0, o3_1, o3_2, o3_3, o3_4, o11_0, o11_1, o11_2, o11_3, o4_0, o4_1, o4_2, o4_3, o4_4, o4_5, o4_6, o5_0, o5_1, o5_2, o5_3, o5_4, o5_5, n5, o5s_0, o5s_1, o5s_2, o5s_3, o5s_4, o5s_5, p0, pr, gs, mv, y1', z1, y1'', ho]
          · rw [if_neg ho]
            by_cases ho2 : S (94 + f) ≤ 1
            · rw [if_pos ho2]
              refine ⟨H, ?_, h, Fr.rf, rfl, rfl⟩
              rw [Y5005 H rfl rfl (jrecv_in p0 rfl), F5005_0]
              simp (disch := first | assumption | omega | decide | exact okF_i | exact okF_r | exact okF_n | exact okF_j | rfl) only [jc_ref, rI_int, rR_ref, rR_null, rJ_long, ckR_ref, ckR_null, ckr_ref, ckr_null, ckW_int, ckW_ref, ckW_null, cI_ok, cR_ok, cR_null, cV_ok, cJ_ok, qH_eq, qD_in, aG_ref, aS_ref, aL_ref, pF_ref, cK_ref, cK_null, zI_lit, zJ_lit, zI_add, zI_sub, zI_mul, zI_neg, zI_eq, zI_lt, zI_le, Int.reduceLT, Int.reduceLE, Int.reduceAdd, Int.reduceSub, Int.reduceMul, Int.reduceNeg, Int.reduceEq, Int.reduceNe, reduceIte, jf_in, pFc_in, aGi, aGb, aSi, aLc_in, cKc_in, nA_in, jm_s1, jm_s2, jm_p1, jm_p2, jm_b, jn_b, jn_s, jn_p, jset_jset, jset_jpush2, ckR_is, ckr_is, rR_is, ckW_is, cR_is, obi2, ckW_int, eq_self, if_true, ref_null, if_false, ne_eq, not_true_eq_false, not_false_eq_true, decide_true, decide_false, decide_not, Bool.true_and, Bool.false_and, Bool.and_true, Bool.and_false, Bool.true_or, Bool.false_or, Bool.or_true, Bool.or_false, Bool.not_true, Bool.not_false, Bool.false_eq_true, bI_t, bI_f, Int.natCast_one, Int.cast_ofNat_Int, Int.natCast_zero, o23_0, o23_1, o23_2, o12_0, o12_1, o13_0, o13_1, o13_2, o13_3, o13_4, o13_5, o13_6, o14_0, o14_1, o14_2, o14_3, o14_4, o14_5, o3_0, o3_1, o3_2, o3_3, o3_4, o11_0, o11_1, o11_2, o11_3, o4_0, o4_1, o4_2, o4_3, o4_4, o4_5, o4_6, o5_0, o5_1, o5_2, o5_3, o5_4, o5_5, n5, o5s_0, o5s_1, o5s_2, o5s_3, o5s_4, o5s_5, p0, pr, gs, mv, y1']
              rw [if_neg ho, if_pos (by omega)]
            · rw [if_neg ho2]
              obtain ⟨H2, z1, z2, z3, z4, z5⟩ := p_clears (d := d) h r0 r1 r2 hf f0 f1 ht (by_ := S (94 + f)) (by omega)
              refine ⟨H2, ?_, z2, z3, z4, z5⟩
              rw [Y5005 H rfl rfl (jrecv_in p0 rfl), F5005_0]
              simp (disch := first | assumption | omega | decide | exact okF_i | exact okF_r | exact okF_n | exact okF_j | rfl) only [jc_ref, rI_int, rR_ref, rR_null, rJ_long, ckR_ref, ckR_null, ckr_ref, ckr_null, ckW_int, ckW_ref, ckW_null, cI_ok, cR_ok, cR_null, cV_ok, cJ_ok, qH_eq, qD_in, aG_ref, aS_ref, aL_ref, pF_ref, cK_ref, cK_null, zI_lit, zJ_lit, zI_add, zI_sub, zI_mul, zI_neg, zI_eq, zI_lt, zI_le, Int.reduceLT, Int.reduceLE, Int.reduceAdd, Int.reduceSub, Int.reduceMul, Int.reduceNeg, Int.reduceEq, Int.reduceNe, reduceIte, jf_in, pFc_in, aGi, aGb, aSi, aLc_in, cKc_in, nA_in, jm_s1, jm_s2, jm_p1, jm_p2, jm_b, jn_b, jn_s, jn_p, jset_jset, jset_jpush2, ckR_is, ckr_is, rR_is, ckW_is, cR_is, obi2, ckW_int, eq_self, if_true, ref_null, if_false, ne_eq, not_true_eq_false, not_false_eq_true, decide_true, decide_false, decide_not, Bool.true_and, Bool.false_and, Bool.and_true, Bool.and_false, Bool.true_or, Bool.false_or, Bool.or_true, Bool.or_false, Bool.not_true, Bool.not_false, Bool.false_eq_true, bI_t, bI_f, Int.natCast_one, Int.cast_ofNat_Int, Int.natCast_zero, o23_0, o23_1, o23_2, o12_0, o12_1, o13_0, o13_1, o13_2, o13_3, o13_4, o13_5, o13_6, o14_0, o14_1, o14_2, o14_3, o14_4, o14_5, o3_0, o3_1, o3_2, o3_3, o3_4, o11_0, o11_1, o11_2, o11_3, o4_0, o4_1, o4_2, o4_3, o4_4, o4_5, o4_6, o5_0, o5_1, o5_2, o5_3, o5_4, o5_5, n5, o5s_0, o5s_1, o5s_2, o5s_3, o5s_4, o5s_5, p0, pr, gs, mv, y1', z1]
              rw [if_neg ho, if_neg (by omega)]
  · rw [if_neg ht] at pr ⊢
    rw [if_pos (by decide)]
    refine ⟨H, ?_, h, Fr.rf, rfl, rfl⟩
    have e1 : prV ra (-1) = .null := rfl
    rw [e1] at pr
    rw [Y5005 H rfl rfl (jrecv_in p0 rfl), F5005_0]
    simp (disch := first | assumption | omega | decide | exact okF_i | exact okF_r | exact okF_n | exact okF_j | rfl) only [jc_ref, rI_int, rR_ref, rR_null, rJ_long, ckR_ref, ckR_null, ckr_ref, ckr_null, ckW_int, ckW_ref, ckW_null, cI_ok, cR_ok, cR_null, cV_ok, cJ_ok, qH_eq, qD_in, aG_ref, aS_ref, aL_ref, pF_ref, cK_ref, cK_null, zI_lit, zJ_lit, zI_add, zI_sub, zI_mul, zI_neg, zI_eq, zI_lt, zI_le, Int.reduceLT, Int.reduceLE, Int.reduceAdd, Int.reduceSub, Int.reduceMul, Int.reduceNeg, Int.reduceEq, Int.reduceNe, reduceIte, jf_in, pFc_in, aGi, aGb, aSi, aLc_in, cKc_in, nA_in, jm_s1, jm_s2, jm_p1, jm_p2, jm_b, jn_b, jn_s, jn_p, jset_jset, jset_jpush2, ckR_is, ckr_is, rR_is, ckW_is, cR_is, obi2, ckW_int, eq_self, if_true, ref_null, if_false, ne_eq, not_true_eq_false, not_false_eq_true, decide_true, decide_false, decide_not, Bool.true_and, Bool.false_and, Bool.and_true, Bool.and_false, Bool.true_or, Bool.false_or, Bool.or_true, Bool.or_false, Bool.not_true, Bool.not_false, Bool.false_eq_true, bI_t, bI_f, Int.natCast_one, Int.cast_ofNat_Int, Int.natCast_zero, o23_0, o23_1, o23_2, o12_0, o12_1, o13_0, o13_1, o13_2, o13_3, o13_4, o13_5, o13_6, o14_0, o14_1, o14_2, o14_3, o14_4, o14_5, o3_0, o3_1, o3_2, o3_3, o3_4, o11_0, o11_1, o11_2, o11_3, o4_0, o4_1, o4_2, o4_3, o4_4, o4_5, o4_6, o5_0, o5_1, o5_2, o5_3, o5_4, o5_5, n5, o5s_0, o5s_1, o5s_2, o5s_3, o5s_4, o5s_5, p0, pr]
end
