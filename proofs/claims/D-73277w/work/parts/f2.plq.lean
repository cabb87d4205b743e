/-! a plan: what follows by one reference -/
-- jc_ref, rI_int, rR_ref, rR_null, rJ_long, ckR_ref, ckR_null, ckr_ref, ckr_null, ckW_int, ckW_ref, ckW_null, cI_ok, cR_ok, cR_null, cV_ok, cJ_ok, qH_eq, qD_in, aG_ref, aS_ref, aL_ref, pF_ref, cK_ref, cK_null, zI_lit, zJ_lit, zI_add, zI_sub, zI_mul, zI_neg, zI_eq, zI_lt, zI_le, Int.reduceLT, Int.reduceLE, Int.reduceAdd, Int.reduceSub, Int.reduceMul, Int.reduceNeg, Int.reduceEq, Int.reduceNe, reduceIte, jf_in, pFc_in, aGi, aGb, aSi, aLc_in, cKc_in, nA_in, jm_s1, jm_s2, jm_p1, jm_p2, jm_b, jn_b, jn_s, jn_p, jset_jset, jset_jpush2, ckR_is, ckr_is, rR_is, ckW_is, cR_is, obi2, ckW_int, eq_self, if_true, ref_null, if_false, ne_eq, not_true_eq_false, not_false_eq_true, decide_true, decide_false, decide_not, Bool.true_and, Bool.false_and, Bool.and_true, Bool.and_false, Bool.true_or, Bool.false_or, Bool.or_true, Bool.or_false, Bool.not_true, Bool.not_false, Bool.false_eq_true, bI_t, bI_f, Int.natCast_one, Int.cast_ofNat_Int, Int.natCast_zero, o23_0, o23_1, o23_2, o12_0, o12_1, o13_0, o13_1, o13_2, o13_3, o13_4, o13_5, o13_6, o14_0, o14_1, o14_2, o14_3, o14_4, o14_5, o3_0, o3_1, o3_2, o3_3, o3_4, o11_0, o11_1, o11_2, o11_3, o4_0, o4_1, o4_2, o4_3, o4_4, o4_5, o4_6, o5_0, o5_1, o5_2, o5_3, o5_4, o5_5, n5, o5s_0, o5s_1, o5s_2, o5s_3, o5s_4, o5s_5 = jc_ref, rI_int, rR_ref, rR_null, rJ_long, ckR_ref, ckR_null, ckr_ref, ckr_null, ckW_int, ckW_ref, ckW_null, cI_ok, cR_ok, cR_null, cV_ok, cJ_ok, qH_eq, qD_in, aG_ref, aS_ref, aL_ref, pF_ref, cK_ref, cK_null, zI_lit, zJ_lit, zI_add, zI_sub, zI_mul, zI_neg, zI_eq, zI_lt, zI_le, Int.reduceLT, Int.reduceLE, Int.reduceAdd, Int.reduceSub, Int.reduceMul, Int.reduceNeg, Int.reduceEq, Int.reduceNe, reduceIte, jf_in, pFc_in, aGi, aGb, aSi, aLc_in, cKc_in, nA_in, jm_s1, jm_s2, jm_p1, jm_p2, jm_b, jn_b, jn_s, jn_p, jset_jset, jset_jpush2, ckR_is, ckr_is, rR_is, ckW_is, cR_is, obi2, ckW_int, eq_self, if_true, ref_null, if_false, ne_eq, not_true_eq_false, not_false_eq_true, decide_true, decide_false, decide_not, Bool.true_and, Bool.false_and, Bool.and_true, Bool.and_false, Bool.true_or, Bool.false_or, Bool.or_true, Bool.or_false, Bool.not_true, Bool.not_false, Bool.false_eq_true, bI_t, bI_f, Int.natCast_one, Int.cast_ofNat_Int, Int.natCast_zero, o23_0, o23_1, o23_2, o12_0, o12_1, o13_0, o13_1, o13_2, o13_3, o13_4, o13_5, o13_6, o14_0, o14_1, o14_2, o14_3, o14_4, o14_5, o3_0, o3_1, o3_2, o3_3, o3_4, o11_0, o11_1, o11_2, o11_3, o4_0, o4_1, o4_2, o4_3, o4_4, o4_5, o4_6, o5_0, o5_1, o5_2, o5_3, o5_4, o5_5, n5, o5s_0, o5s_1, o5s_2, o5s_3, o5s_4, o5s_5
def chgW (S : Int → Int) (r f q : Int) (w : WS) : WS :=
  let w1 := if isOth S w q (S (46 + S (82 + f))) = true then want1 w (4 * r + S (64 + f)) (w.1 (4 * q + S (46 + S (82 + f)))) else w
  if (!decide (S (52 + S (82 + f)) < 0) && isOth S w1 q (S (52 + S (82 + f)))) = true then want1 w1 (4 * r + S (70 + f)) (w1.1 (4 * q + S (52 + S (82 + f)))) else w1
def movW (S : Int → Int) (f q : Int) (w : WS) : Bool := isOth S w q (S (46 + S (82 + f))) || (!decide (S (52 + S (82 + f)) < 0) && isOth S w q (S (52 + S (82 + f))))
/-- what a reference makes of the wants: q: the row to which r refers -/
def com1 (S : Int → Int) (g : Nat → Bool) (r f q : Int) (w : WS) : WS := if q < 0 then w else if g q.toNat = true then (if S (88 + f) ≤ 1 then w else wantsA S r f (decide (S (88 + f) = 3)) w) else
  if movW S f q w = false then w else if S (94 + f) = 1 then chgW S r f q w else if S (94 + f) ≤ 1 then w else wantsA S r f (decide (S (94 + f) = 3)) w
section
variable {F : Nat → Option Cl} {d : Nat} {H H2 : AH} {a b e p q fb pb : Nat} {r t c k n f v x : Int} {cs S nm : Int → Int} {ra : Int → Nat} {wl : Nat} {g : Nat → Bool} {w : WS} {sp : Int → Int} {P : Nat → Prop}
theorem celW_oth : decide (celW (cellS S x) w x c = cellS S x c) = !isOth S w x c := by
  unfold celW isOth
  by_cases h : w.1 (4 * x + c) = -9
  · rw [if_pos h]; simp [h]
  · rw [if_neg h]; simp [h]
theorem celW_v (h : isOth S w x c = true) : celW (cellS S x) w x c = w.1 (4 * x + c) := by
  unfold isOth at h
  unfold celW
  by_cases h2 : w.1 (4 * x + c) = -9
  · rw [h2] at h; simp at h
  · rw [if_neg h2]
theorem celW_rg (W : StW S) (hw : WsW w) (r0 : 0 ≤ x) (r1 : x < 99) (c0 : 0 ≤ c) (c1 : c < 4) : -1 ≤ celW (cellS S x) w x c ∧ celW (cellS S x) w x c ≤ 99 := by
  have h1 := W.cell r0 r1 c0 c1
  have h2 := hw.1 (4 * x + c) (by omega) (by omega)
  unfold celW
  by_cases h : w.1 (4 * x + c) = -9
  · rw [if_pos h]; exact h1
  · rw [if_neg h]; omega
/-- the columns of a reference are to be cleared, or reset -/
theorem p_clears (h : PlW F H q a p S nm ra wl g w sp) (r0 : 0 ≤ r) (r1 : r < 99) (r2 : S (150 + r) = 1) (hf : RefF F fb f S) (f0 : 0 ≤ f) (f1 : f < S 2) (ht : S (249 + r) = S (58 + f)) {by_ : Int} (hb : by_ = 2 ∨ by_ = 3) :
    ∃ H2, M2 (d + 3) 5004 [.ref p, .ref (ra r), .ref fb, .int (zI by_)] H = some (.inl none, H2) ∧ PlW F H2 q a p S nm ra wl g (wantsA S r f (decide (by_ = 3)) w) sp ∧ Fr H H2 (PlP p) ∧ H2.1 = H.1 ∧ H2.2.1 = H.2.1 := by
  have W := h.2.2.1
  obtain ⟨a1, a2, a3, -, -, a6⟩ := W.ref f0 f1
  have N0 := W.n0
  have hrow := h.row r0 r1 r2
  obtain ⟨fe, y1, ⟨gf, y2, y3, y4⟩⟩ := id hf
  obtain ⟨re, rg, m1, m2, m3⟩ := id hrow
  have t1 := ((W.2.1 r r0 r1).1.2 r2).1
  have key : ∀ c, 0 ≤ c → c < 4 → -1 ≤ (if decide (by_ = 3) = true then S (8 + 4 * S (58 + f) + c) else -1) ∧ (if decide (by_ = 3) = true then S (8 + 4 * S (58 + f) + c) else -1) ≤ 99 := by
    intro c c0 c1
    split
    · exact W.bx (by omega) (by omega)
    · decide
  -- one column
  have one : ∀ (H : AH) (w : WS) (i n : Int) (v7 : Value), PlW F H q a p S nm ra wl g w sp → 0 ≤ i → i < n → n ≤ 2 → (n : Int) = (if S (70 + f) < 0 then 1 else 2) → 0 ≤ gf i → gf i < 4 → ∃ H2, G2 (d + 2) 5004 14 [.ref p, .ref (ra r), .ref fb, .int (zI by_), .ref fe, .int (zI n), .int (zI i), v7] [] H = G2 (d + 2) 5004 14 [.ref p, .ref (ra r), .ref fb, .int (zI by_), .ref fe, .int (zI n), .int (zI (i + 1)), .int (zI (gf i))] [] H2 ∧ PlW F H2 q a p S nm ra wl g (want1 w (4 * r + gf i) (if decide (by_ = 3) = true then S (8 + 4 * S (58 + f) + gf i) else -1)) sp ∧ Fr H H2 (PlP p) ∧ H2.1 = H.1 ∧ H2.2.1 = H.2.1 := by
    intro H w i n v7 h i0 i1 n2 hn g0 g1
    have hF := h.1
    have m1' := hF.m m1
    have y1' := hF.m y1
    have y2' := hF.m y2
    obtain ⟨ln, qt, qk, qr, qc, z1, z2, -⟩ := id h.2.1
    have z1' := hF.m z1
    obtain ⟨tb, hT, g9⟩ := z2.get hF a1.1 (show S (58 + f) < S 0 by omega)
    obtain ⟨qn, qcs, qd, qb, u1, -, -, ⟨gd, u2, u3⟩, -⟩ := hT
    have u1' := hF.m u1
    have u2' := hF.m u2
    have u3' := u3 (gf i) g0 g1
    obtain ⟨ins, on, l1, l2, l3, wm, bs, ⟨s0, -⟩, -⟩ := id h.2.2.2.1
    have p0 := h.2.2.2.2.1.1
    have kk := key (gf i) g0 g1
    have lim2 : i < ((if S (70 + f) < 0 then 1 else 2 : Nat) : Int) := by
      by_cases h2 : S (70 + f) < 0
      · rw [if_pos h2] at hn ⊢; omega
      · rw [if_neg h2] at hn ⊢; omega
    have le3 : (if S (70 + f) < 0 then 1 else 2 : Nat) ≤ 2 := by split <;> omega
    obtain ⟨H2, x1, x2, x3, x4, x5⟩ := p_wants (d := d) h.2.2.2.2.1 m1' r0 r1 g0 g1 kk.1 kk.2
    refine ⟨H2, ?_, h.st x2 (x3.mono fun _ _ z => PlP.of03 z), x3.mono fun _ _ z => PlP.of03 z, x4, x5⟩
    have bx := W.bx (i := 8 + 4 * S (58 + f) + gf i) (by omega) (by omega)
    conv => lhs; rw [F5004_14]
    simp (disch := first | assumption | omega | decide | exact okF_i | exact okF_r | exact okF_n | exact okF_j | rfl) only [jc_ref, rI_int, rR_ref, rR_null, rJ_long, ckR_ref, ckR_null, ckr_ref, ckr_null, ckW_int, ckW_ref, ckW_null, cI_ok, cR_ok, cR_null, cV_ok, cJ_ok, qH_eq, qD_in, aG_ref, aS_ref, aL_ref, pF_ref, cK_ref, cK_null, zI_lit, zJ_lit, zI_add, zI_sub, zI_mul, zI_neg, zI_eq, zI_lt, zI_le, Int.reduceLT, Int.reduceLE, Int.reduceAdd, Int.reduceSub, Int.reduceMul, Int.reduceNeg, Int.reduceEq, Int.reduceNe, reduceIte, jf_in, pFc_in, aGi, aGb, aSi, aLc_in, cKc_in, nA_in, jm_s1, jm_s2, jm_p1, jm_p2, jm_b, jn_b, jn_s, jn_p, jset_jset, jset_jpush2, ckR_is, ckr_is, rR_is, ckW_is, cR_is, obi2, ckW_int, eq_self, if_true, ref_null, if_false, ne_eq, not_true_eq_false, not_false_eq_true, decide_true, decide_false, decide_not, Bool.true_and, Bool.false_and, Bool.and_true, Bool.and_false, Bool.true_or, Bool.false_or, Bool.or_true, Bool.or_false, Bool.not_true, Bool.not_false, Bool.false_eq_true, bI_t, bI_f, Int.natCast_one, Int.cast_ofNat_Int, Int.natCast_zero, o23_0, o23_1, o23_2, o12_0, o12_1, o13_0, o13_1, o13_2, o13_3, o13_4, o13_5, o13_6, o14_0, o14_1, o14_2, o14_3, o14_4, o14_5, o3_0, o3_1, o3_2, o3_3, o3_4, o11_0, o11_1, o11_2, o11_3, o4_0, o4_1, o4_2, o4_3, o4_4, o4_5, o4_6, o5_0, o5_1, o5_2, o5_3, o5_4, o5_5, n5, o5s_0, o5s_1, o5s_2, o5s_3, o5s_4, o5s_5, y2']
    rw [if_neg (by omega)]
    rcases hb with hb | hb
    · subst hb
      simp only [show decide ((2 : Int) = 3) = false from rfl, Bool.false_eq_true, if_false] at x1
      simp (disch := first | assumption | omega | decide | exact okF_i | exact okF_r | exact okF_n | exact okF_j | rfl) only [jc_ref, rI_int, rR_ref, rR_null, rJ_long, ckR_ref, ckR_null, ckr_ref, ckr_null, ckW_int, ckW_ref, ckW_null, cI_ok, cR_ok, cR_null, cV_ok, cJ_ok, qH_eq, qD_in, aG_ref, aS_ref, aL_ref, pF_ref, cK_ref, cK_null, zI_lit, zJ_lit, zI_add, zI_sub, zI_mul, zI_neg, zI_eq, zI_lt, zI_le, Int.reduceLT, Int.reduceLE, Int.reduceAdd, Int.reduceSub, Int.reduceMul, Int.reduceNeg, Int.reduceEq, Int.reduceNe, reduceIte, jf_in, pFc_in, aGi, aGb, aSi, aLc_in, cKc_in, nA_in, jm_s1, jm_s2, jm_p1, jm_p2, jm_b, jn_b, jn_s, jn_p, jset_jset, jset_jpush2, ckR_is, ckr_is, rR_is, ckW_is, cR_is, obi2, ckW_int, eq_self, if_true, ref_null, if_false, ne_eq, not_true_eq_false, not_false_eq_true, decide_true, decide_false, decide_not, Bool.true_and, Bool.false_and, Bool.and_true, Bool.and_false, Bool.true_or, Bool.false_or, Bool.or_true, Bool.or_false, Bool.not_true, Bool.not_false, Bool.false_eq_true, bI_t, bI_f, Int.natCast_one, Int.cast_ofNat_Int, Int.natCast_zero, o23_0, o23_1, o23_2, o12_0, o12_1, o13_0, o13_1, o13_2, o13_3, o13_4, o13_5, o13_6, o14_0, o14_1, o14_2, o14_3, o14_4, o14_5, o3_0, o3_1, o3_2, o3_3, o3_4, o11_0, o11_1, o11_2, o11_3, o4_0, o4_1, o4_2, o4_3, o4_4, o4_5, o4_6, o5_0, o5_1, o5_2, o5_3, o5_4, o5_5, n5, o5s_0, o5s_1, o5s_2, o5s_3, o5s_4, o5s_5, y2', x1]
    · subst hb
      have x1 : M2 (d + 2) 5015 [.ref p, .ref (ra r), .int (zI (gf i)), .int (zI (S (8 + 4 * S (58 + f) + gf i)))] H = some (.inl none, H2) := x1
      simp (disch := first | assumption | omega | decide | exact okF_i | exact okF_r | exact okF_n | exact okF_j | rfl) only [jc_ref, rI_int, rR_ref, rR_null, rJ_long, ckR_ref, ckR_null, ckr_ref, ckr_null, ckW_int, ckW_ref, ckW_null, cI_ok, cR_ok, cR_null, cV_ok, cJ_ok, qH_eq, qD_in, aG_ref, aS_ref, aL_ref, pF_ref, cK_ref, cK_null, zI_lit, zJ_lit, zI_add, zI_sub, zI_mul, zI_neg, zI_eq, zI_lt, zI_le, Int.reduceLT, Int.reduceLE, Int.reduceAdd, Int.reduceSub, Int.reduceMul, Int.reduceNeg, Int.reduceEq, Int.reduceNe, reduceIte, jf_in, pFc_in, aGi, aGb, aSi, aLc_in, cKc_in, nA_in, jm_s1, jm_s2, jm_p1, jm_p2, jm_b, jn_b, jn_s, jn_p, jset_jset, jset_jpush2, ckR_is, ckr_is, rR_is, ckW_is, cR_is, obi2, ckW_int, eq_self, if_true, ref_null, if_false, ne_eq, not_true_eq_false, not_false_eq_true, decide_true, decide_false, decide_not, Bool.true_and, Bool.false_and, Bool.and_true, Bool.and_false, Bool.true_or, Bool.false_or, Bool.or_true, Bool.or_false, Bool.not_true, Bool.not_false, Bool.false_eq_true, bI_t, bI_f, Int.natCast_one, Int.cast_ofNat_Int, Int.natCast_zero, o23_0, o23_1, o23_2, o12_0, o12_1, o13_0, o13_1, o13_2, o13_3, o13_4, o13_5, o13_6, o14_0, o14_1, o14_2, o14_3, o14_4, o14_5, o3_0, o3_1, o3_2, o3_3, o3_4, o11_0, o11_1, o11_2, o11_3, o4_0, o4_1, o4_2, o4_3, o4_4, o4_5, o4_6, o5_0, o5_1, o5_2, o5_3, o5_4, o5_5, n5, o5s_0, o5s_1, o5s_2, o5s_3, o5s_4, o5s_5, y2', p0, s0, z1', m1', ht, g9, u1', u2', u3', x1]
  have hF := h.1
  have m1' := hF.m m1
  have y1' := hF.m y1
  have y2' := hF.m y2
  have p0 := h.2.2.2.2.1.1
  have n64 : ¬ S (64 + f) < 0 := by omega
  rw [← y3] at a2 n64
  by_cases h2 : S (70 + f) < 0
  · rw [if_pos h2] at y2 y2'
    obtain ⟨H2, o1, o2, o3, o4', o5⟩ := one H w 0 1 jno h (by omega) (by omega) (by omega) (by rw [if_pos h2]) a2.1 a2.2
    refine ⟨H2, ?_, ?_, o3, o4', o5⟩
    · rw [Y5004 H rfl rfl (jrecv_in p0 rfl), F5004_0]
      simp (disch := first | assumption | omega | decide | exact okF_i | exact okF_r | exact okF_n | exact okF_j | rfl) only [jc_ref, rI_int, rR_ref, rR_null, rJ_long, ckR_ref, ckR_null, ckr_ref, ckr_null, ckW_int, ckW_ref, ckW_null, cI_ok, cR_ok, cR_null, cV_ok, cJ_ok, qH_eq, qD_in, aG_ref, aS_ref, aL_ref, pF_ref, cK_ref, cK_null, zI_lit, zJ_lit, zI_add, zI_sub, zI_mul, zI_neg, zI_eq, zI_lt, zI_le, Int.reduceLT, Int.reduceLE, Int.reduceAdd, Int.reduceSub, Int.reduceMul, Int.reduceNeg, Int.reduceEq, Int.reduceNe, reduceIte, jf_in, pFc_in, aGi, aGb, aSi, aLc_in, cKc_in, nA_in, jm_s1, jm_s2, jm_p1, jm_p2, jm_b, jn_b, jn_s, jn_p, jset_jset, jset_jpush2, ckR_is, ckr_is, rR_is, ckW_is, cR_is, obi2, ckW_int, eq_self, if_true, ref_null, if_false, ne_eq, not_true_eq_false, not_false_eq_true, decide_true, decide_false, decide_not, Bool.true_and, Bool.false_and, Bool.and_true, Bool.and_false, Bool.true_or, Bool.false_or, Bool.or_true, Bool.or_false, Bool.not_true, Bool.not_false, Bool.false_eq_true, bI_t, bI_f, Int.natCast_one, Int.cast_ofNat_Int, Int.natCast_zero, o23_0, o23_1, o23_2, o12_0, o12_1, o13_0, o13_1, o13_2, o13_3, o13_4, o13_5, o13_6, o14_0, o14_1, o14_2, o14_3, o14_4, o14_5, o3_0, o3_1, o3_2, o3_3, o3_4, o11_0, o11_1, o11_2, o11_3, o4_0, o4_1, o4_2, o4_3, o4_4, o4_5, o4_6, o5_0, o5_1, o5_2, o5_3, o5_4, o5_5, n5, o5s_0, o5s_1, o5s_2, o5s_3, o5s_4, o5s_5, y1', y2']
      refine Eq.trans o1 ?_
      rw [F5004_14]
      simp (disch := first | assumption | omega | decide | exact okF_i | exact okF_r | exact okF_n | exact okF_j | rfl) only [jc_ref, rI_int, rR_ref, rR_null, rJ_long, ckR_ref, ckR_null, ckr_ref, ckr_null, ckW_int, ckW_ref, ckW_null, cI_ok, cR_ok, cR_null, cV_ok, cJ_ok, qH_eq, qD_in, aG_ref, aS_ref, aL_ref, pF_ref, cK_ref, cK_null, zI_lit, zJ_lit, zI_add, zI_sub, zI_mul, zI_neg, zI_eq, zI_lt, zI_le, Int.reduceLT, Int.reduceLE, Int.reduceAdd, Int.reduceSub, Int.reduceMul, Int.reduceNeg, Int.reduceEq, Int.reduceNe, reduceIte, jf_in, pFc_in, aGi, aGb, aSi, aLc_in, cKc_in, nA_in, jm_s1, jm_s2, jm_p1, jm_p2, jm_b, jn_b, jn_s, jn_p, jset_jset, jset_jpush2, ckR_is, ckr_is, rR_is, ckW_is, cR_is, obi2, ckW_int, eq_self, if_true, ref_null, if_false, ne_eq, not_true_eq_false, not_false_eq_true, decide_true, decide_false, decide_not, Bool.true_and, Bool.false_and, Bool.and_true, Bool.and_false, Bool.true_or, Bool.false_or, Bool.or_true, Bool.or_false, Bool.not_true, Bool.not_false, Bool.false_eq_true, bI_t, bI_f, Int.natCast_one, Int.cast_ofNat_Int, Int.natCast_zero, o23_0, o23_1, o23_2, o12_0, o12_1, o13_0, o13_1, o13_2, o13_3, o13_4, o13_5, o13_6, o14_0, o14_1, o14_2, o14_3, o14_4, o14_5, o3_0, o3_1, o3_2, o3_3, o3_4, o11_0, o11_1, o11_2, o11_3, o4_0, o4_1, o4_2, o4_3, o4_4, o4_5, o4_6, o5_0, o5_1, o5_2, o5_3, o5_4, o5_5, n5, o5s_0, o5s_1, o5s_2, o5s_3, o5s_4, o5s_5]
    · unfold wantsA
      simp only [← y3, if_neg n64, if_pos h2]
      exact o2
  · rw [if_neg h2] at y2 y2'
    have y4 := y4 (by omega)
    obtain ⟨H2, o1, o2, o3, o4', o5⟩ := one H w 0 2 jno h (by omega) (by omega) (by omega) (by rw [if_neg h2]) a2.1 a2.2
    obtain ⟨H3, b1, b2, b3, b4, b5⟩ := one H2 _ 1 2 (.int (zI (gf 0))) o2 (by omega) (by omega) (by omega) (by rw [if_neg h2]) (by omega) (by omega)
    refine ⟨H3, ?_, ?_, o3.tr b3, b4.trans o4', b5.trans o5⟩
    · rw [Y5004 H rfl rfl (jrecv_in p0 rfl), F5004_0]
      simp (disch := first | assumption | omega | decide | exact okF_i | exact okF_r | exact okF_n | exact okF_j | rfl) only [jc_ref, rI_int, rR_ref, rR_null, rJ_long, ckR_ref, ckR_null, ckr_ref, ckr_null, ckW_int, ckW_ref, ckW_null, cI_ok, cR_ok, cR_null, cV_ok, cJ_ok, qH_eq, qD_in, aG_ref, aS_ref, aL_ref, pF_ref, cK_ref, cK_null, zI_lit, zJ_lit, zI_add, zI_sub, zI_mul, zI_neg, zI_eq, zI_lt, zI_le, Int.reduceLT, Int.reduceLE, Int.reduceAdd, Int.reduceSub, Int.reduceMul, Int.reduceNeg, Int.reduceEq, Int.reduceNe, reduceIte, jf_in, pFc_in, aGi, aGb, aSi, aLc_in, cKc_in, nA_in, jm_s1, jm_s2, jm_p1, jm_p2, jm_b, jn_b, jn_s, jn_p, jset_jset, jset_jpush2, ckR_is, ckr_is, rR_is, ckW_is, cR_is, obi2, ckW_int, eq_self, if_true, ref_null, if_false, ne_eq, not_true_eq_false, not_false_eq_true, decide_true, decide_false, decide_not, Bool.true_and, Bool.false_and, Bool.and_true, Bool.and_false, Bool.true_or, Bool.false_or, Bool.or_true, Bool.or_false, Bool.not_true, Bool.not_false, Bool.false_eq_true, bI_t, bI_f, Int.natCast_one, Int.cast_ofNat_Int, Int.natCast_zero, o23_0, o23_1, o23_2, o12_0, o12_1, o13_0, o13_1, o13_2, o13_3, o13_4, o13_5, o13_6, o14_0, o14_1, o14_2, o14_3, o14_4, o14_5, o3_0, o3_1, o3_2, o3_3, o3_4, o11_0, o11_1, o11_2, o11_3, o4_0, o4_1, o4_2, o4_3, o4_4, o4_5, o4_6, o5_0, o5_1, o5_2, o5_3, o5_4, o5_5, n5, o5s_0, o5s_1, o5s_2, o5s_3, o5s_4, o5s_5, y1', y2']
      refine Eq.trans o1 (Eq.trans b1 ?_)
      rw [F5004_14]
      simp (disch := first | assumption | omega | decide | exact okF_i | exact okF_r | exact okF_n | exact okF_j | rfl) only [jc_ref, rI_int, rR_ref, rR_null, rJ_long, ckR_ref, ckR_null, ckr_ref, ckr_null, ckW_int, ckW_ref, ckW_null, cI_ok, cR_ok, cR_null, cV_ok, cJ_ok, qH_eq, qD_in, aG_ref, aS_ref, aL_ref, pF_ref, cK_ref, cK_null, zI_lit, zJ_lit, zI_add, zI_sub, zI_mul, zI_neg, zI_eq, zI_lt, zI_le, Int.reduceLT, Int.reduceLE, Int.reduceAdd, Int.reduceSub, Int.reduceMul, Int.reduceNeg, Int.reduceEq, Int.reduceNe, reduceIte, jf_in, pFc_in, aGi, aGb, aSi, aLc_in, cKc_in, nA_in, jm_s1, jm_s2, jm_p1, jm_p2, jm_b, jn_b, jn_s, jn_p, jset_jset, jset_jpush2, ckR_is, ckr_is, rR_is, ckW_is, cR_is, obi2, ckW_int, eq_self, if_true, ref_null, if_false, ne_eq, not_true_eq_false, not_false_eq_true, decide_true, decide_false, decide_not, Bool.true_and, Bool.false_and, Bool.and_true, Bool.and_false, Bool.true_or, Bool.false_or, Bool.or_true, Bool.or_false, Bool.not_true, Bool.not_false, Bool.false_eq_true, bI_t, bI_f, Int.natCast_one, Int.cast_ofNat_Int, Int.natCast_zero, o23_0, o23_1, o23_2, o12_0, o12_1, o13_0, o13_1, o13_2, o13_3, o13_4, o13_5, o13_6, o14_0, o14_1, o14_2, o14_3, o14_4, o14_5, o3_0, o3_1, o3_2, o3_3, o3_4, o11_0, o11_1, o11_2, o11_3, o4_0, o4_1, o4_2, o4_3, o4_4, o4_5, o4_6, o5_0, o5_1, o5_2, o5_3, o5_4, o5_5, n5, o5s_0, o5s_1, o5s_2, o5s_3, o5s_4, o5s_5]
    · unfold wantsA
      simp only [← y3, ← y4, if_neg n64, if_neg (show ¬ gf 1 < 0 by omega)]
      exact b2
end
