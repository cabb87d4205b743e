/-! a plan is done to the rows -/
-- jc_ref, rI_int, rR_ref, rR_null, rJ_long, ckR_ref, ckR_null, ckr_ref, ckr_null, ckW_int, ckW_ref, ckW_null, cI_ok, cR_ok, cR_null, cV_ok, cJ_ok, qH_eq, qD_in, aG_ref, aS_ref, aL_ref, pF_ref, cK_ref, cK_null, zI_lit, zJ_lit, zI_add, zI_sub, zI_mul, zI_neg, zI_eq, zI_lt, zI_le, Int.reduceLT, Int.reduceLE, Int.reduceAdd, Int.reduceSub, Int.reduceMul, Int.reduceNeg, Int.reduceEq, Int.reduceNe, reduceIte, jf_in, pFc_in, aGi, aGb, aSi, aLc_in, cKc_in, nA_in, jm_s1, jm_s2, jm_p1, jm_p2, jm_b, jn_b, jn_s, jn_p, jset_jset, jset_jpush2, ckR_is, ckr_is, rR_is, ckW_is, cR_is, obi2, ckW_int, eq_self, if_true, ref_null, if_false, ne_eq, not_true_eq_false, not_false_eq_true, decide_true, decide_false, decide_not, Bool.true_and, Bool.false_and, Bool.and_true, Bool.and_false, Bool.true_or, Bool.false_or, Bool.or_true, Bool.or_false, Bool.not_true, Bool.not_false, Bool.false_eq_true, bI_t, bI_f, Int.natCast_one, Int.cast_ofNat_Int, Int.natCast_zero, o23_0, o23_1, o23_2, n23, o23s_0, o23s_1, o23s_2, o12_0, o12_1, o13_0, o13_1, o13_2, o13_3, o13_4, o13_5, o13_6, o14_0, o14_1, o14_2, o14_3, o14_4, o14_5, o3_0, o3_1, o3_2, o3_3, o3_4, o11_0, o11_1, o11_2, o11_3, o4_0, o4_1, o4_2, o4_3, o4_4, o4_5, o4_6, o5_0, o5_1, o5_2, o5_3, o5_4, o5_5, n5, o5s_0, o5s_1, o5s_2, o5s_3, o5s_4, o5s_5, o17_0, o17_1, o19_0, o19_1, o20_0, o20_1, o20_2, o21_0, o21_1, o21_2, o21_3 = jc_ref, rI_int, rR_ref, rR_null, rJ_long, ckR_ref, ckR_null, ckr_ref, ckr_null, ckW_int, ckW_ref, ckW_null, cI_ok, cR_ok, cR_null, cV_ok, cJ_ok, qH_eq, qD_in, aG_ref, aS_ref, aL_ref, pF_ref, cK_ref, cK_null, zI_lit, zJ_lit, zI_add, zI_sub, zI_mul, zI_neg, zI_eq, zI_lt, zI_le, Int.reduceLT, Int.reduceLE, Int.reduceAdd, Int.reduceSub, Int.reduceMul, Int.reduceNeg, Int.reduceEq, Int.reduceNe, reduceIte, jf_in, pFc_in, aGi, aGb, aSi, aLc_in, cKc_in, nA_in, jm_s1, jm_s2, jm_p1, jm_p2, jm_b, jn_b, jn_s, jn_p, jset_jset, jset_jpush2, ckR_is, ckr_is, rR_is, ckW_is, cR_is, obi2, ckW_int, eq_self, if_true, ref_null, if_false, ne_eq, not_true_eq_false, not_false_eq_true, decide_true, decide_false, decide_not, Bool.true_and, Bool.false_and, Bool.and_true, Bool.and_false, Bool.true_or, Bool.false_or, Bool.or_true, Bool.or_false, Bool.not_true, Bool.not_false, Bool.false_eq_true, bI_t, bI_f, Int.natCast_one, Int.cast_ofNat_Int, Int.natCast_zero, o23_0, o23_1, o23_2, n23, o23s_0, o23s_1, o23s_2, o12_0, o12_1, o13_0, o13_1, o13_2, o13_3, o13_4, o13_5, o13_6, o14_0, o14_1, o14_2, o14_3, o14_4, o14_5, o3_0, o3_1, o3_2, o3_3, o3_4, o11_0, o11_1, o11_2, o11_3, o4_0, o4_1, o4_2, o4_3, o4_4, o4_5, o4_6, o5_0, o5_1, o5_2, o5_3, o5_4, o5_5, n5, o5s_0, o5s_1, o5s_2, o5s_3, o5s_4, o5s_5, o17_0, o17_1, o19_0, o19_1, o20_0, o20_1, o20_2, o21_0, o21_1, o21_2, o21_3
def chB (S : Int → Int) (w : WS) (r : Int) : Bool := anyF (fun c => isOth S w r c) (S (4 + S (249 + r))).toNat 0
def chgL (S : Int → Int) (g : Nat → Bool) (w : WS) : List Int → Int
  | [] => 0
  | x :: s => (if g x.toNat = false ∧ chB S w x = true then 1 else 0) + chgL S g w s
theorem chgL_rg {S : Int → Int} {g : Nat → Bool} {w : WS} : ∀ (s : List Int), 0 ≤ chgL S g w s ∧ chgL S g w s ≤ s.length
  | [] => ⟨Int.le_refl _, Int.le_refl _⟩
  | x :: s => by
    have := chgL_rg (S := S) (g := g) (w := w) s
    simp only [chgL, List.length_cons]
    split <;> omega
section
variable {F : Nat → Option Cl} {d : Nat} {H H2 : AH} {a b e p q fb pb qd it hd wb rb we tg ce ve : Nat} {r t c k n f v x to : Int} {cs S L nm : Int → Int} {ra : Int → Nat} {wl : Nat} {g : Nat → Bool} {w : WS} {sp : Int → Int} {P : Nat → Prop} {Q : List Int} {ins on : Int} {v1 v2 v3 v4 : Value}
theorem p_isChanged (hF : Fzn F H) (hS : SchF F q S nm) (W : StW S) (s0 : jm H a = some (4, 7, o4 (.ref q) ins on v1 v2 v3 v4)) (hp : PH H p a wl g w sp) (hr : RowF F b r (S (249 + r)) (cellS S r)) (r0 : 0 ≤ r) (r1 : r < 99) (t1 : S (249 + r) < S 0) : M2 (d + 3) 5008 [.ref p, .ref b] H = some (.inl (some (bI (chB S w r))), H) := by
  have TA := W.ta r0 r1
  have CO := W.co TA.1 TA.2
  have p0 := hp.1
  obtain ⟨ln, qt, qk, qr, qc, z1, z2, -⟩ := id hS
  have z1' := hF.m z1
  obtain ⟨tb, hT, hg⟩ := z2.get hF TA.1 t1
  obtain ⟨qn, qcs, qq, qb, u1, -, u3, -⟩ := hT
  have u1' := hF.m u1
  have csz := u3.size hF
  obtain ⟨re, rg, m1, m2, m3⟩ := id hr
  have m1' := hF.m m1
  have m2' := hF.m m2
  have lp : ∀ (j : Nat) (c : Int), 0 ≤ c → c + j = S (4 + S (249 + r)) → G2 (d + 2) 5008 2 [.ref p, .ref b, .int (zI c)] [] H = some (.inl (some (bI (anyF (fun c => isOth S w r c) j c))), H) := by
    intro j
    induction j with
    | zero =>
      intro c c0 hc
      rw [F5008_2]
      simp (disch := first | assumption | omega | decide | exact okF_i | exact okF_r | exact okF_n | exact okF_j | rfl) only [jc_ref, rI_int, rR_ref, rR_null, rJ_long, ckR_ref, ckR_null, ckr_ref, ckr_null, ckW_int, ckW_ref, ckW_null, cI_ok, cR_ok, cR_null, cV_ok, cJ_ok, qH_eq, qD_in, aG_ref, aS_ref, aL_ref, pF_ref, cK_ref, cK_null, zI_lit, zJ_lit, zI_add, zI_sub, zI_mul, zI_neg, zI_eq, zI_lt, zI_le, Int.reduceLT, Int.reduceLE, Int.reduceAdd, Int.reduceSub, Int.reduceMul, Int.reduceNeg, Int.reduceEq, Int.reduceNe, reduceIte, jf_in, pFc_in, aGi, aGb, aSi, aLc_in, cKc_in, nA_in, jm_s1, jm_s2, jm_p1, jm_p2, jm_b, jn_b, jn_s, jn_p, jset_jset, jset_jpush2, ckR_is, ckr_is, rR_is, ckW_is, cR_is, obi2, ckW_int, eq_self, if_true, ref_null, if_false, ne_eq, not_true_eq_false, not_false_eq_true, decide_true, decide_false, decide_not, Bool.true_and, Bool.false_and, Bool.and_true, Bool.and_false, Bool.true_or, Bool.false_or, Bool.or_true, Bool.or_false, Bool.not_true, Bool.not_false, Bool.false_eq_true, bI_t, bI_f, Int.natCast_one, Int.cast_ofNat_Int, Int.natCast_zero, o23_0, o23_1, o23_2, n23, o23s_0, o23s_1, o23s_2, o12_0, o12_1, o13_0, o13_1, o13_2, o13_3, o13_4, o13_5, o13_6, o14_0, o14_1, o14_2, o14_3, o14_4, o14_5, o3_0, o3_1, o3_2, o3_3, o3_4, o11_0, o11_1, o11_2, o11_3, o4_0, o4_1, o4_2, o4_3, o4_4, o4_5, o4_6, o5_0, o5_1, o5_2, o5_3, o5_4, o5_5, n5, o5s_0, o5s_1, o5s_2, o5s_3, o5s_4, o5s_5, o17_0, o17_1, o19_0, o19_1, o20_0, o20_1, o20_2, o21_0, o21_1, o21_2, o21_3, p0, s0, z1', m1', hg, u1', csz, anyF]
      rw [if_pos (by omega)]
    | succ j ih =>
      intro c c0 hc
      have cl := p_cell (d := d) hF hp hr (W.csw r0 r1) r0 r1 c0 (show c < 4 by omega)
      have m3' := m3 c c0 (by omega)
      have cr := celW_rg W hp.2.2.2.2.2.2 r0 r1 c0 (show c < 4 by omega)
      have cr2 := W.cell r0 r1 c0 (show c < 4 by omega)
      have ih' := ih (c + 1) (by omega) (by omega)
      have e : anyF (fun c => isOth S w r c) (j + 1) c = (isOth S w r c || anyF (fun c => isOth S w r c) j (c + 1)) := rfl
      rw [F5008_2, e]
      generalize anyF (fun c => isOth S w r c) j (c + 1) = rest at ih' ⊢
      simp (disch := first | assumption | omega | decide | exact okF_i | exact okF_r | exact okF_n | exact okF_j | rfl) only [jc_ref, rI_int, rR_ref, rR_null, rJ_long, ckR_ref, ckR_null, ckr_ref, ckr_null, ckW_int, ckW_ref, ckW_null, cI_ok, cR_ok, cR_null, cV_ok, cJ_ok, qH_eq, qD_in, aG_ref, aS_ref, aL_ref, pF_ref, cK_ref, cK_null, zI_lit, zJ_lit, zI_add, zI_sub, zI_mul, zI_neg, zI_eq, zI_lt, zI_le, Int.reduceLT, Int.reduceLE, Int.reduceAdd, Int.reduceSub, Int.reduceMul, Int.reduceNeg, Int.reduceEq, Int.reduceNe, reduceIte, jf_in, pFc_in, aGi, aGb, aSi, aLc_in, cKc_in, nA_in, jm_s1, jm_s2, jm_p1, jm_p2, jm_b, jn_b, jn_s, jn_p, jset_jset, jset_jpush2, ckR_is, ckr_is, rR_is, ckW_is, cR_is, obi2, ckW_int, eq_self, if_true, ref_null, if_false, ne_eq, not_true_eq_false, not_false_eq_true, decide_true, decide_false, decide_not, Bool.true_and, Bool.false_and, Bool.and_true, Bool.and_false, Bool.true_or, Bool.false_or, Bool.or_true, Bool.or_false, Bool.not_true, Bool.not_false, Bool.false_eq_true, bI_t, bI_f, Int.natCast_one, Int.cast_ofNat_Int, Int.natCast_zero, o23_0, o23_1, o23_2, n23, o23s_0, o23s_1, o23s_2, o12_0, o12_1, o13_0, o13_1, o13_2, o13_3, o13_4, o13_5, o13_6, o14_0, o14_1, o14_2, o14_3, o14_4, o14_5, o3_0, o3_1, o3_2, o3_3, o3_4, o11_0, o11_1, o11_2, o11_3, o4_0, o4_1, o4_2, o4_3, o4_4, o4_5, o4_6, o5_0, o5_1, o5_2, o5_3, o5_4, o5_5, n5, o5s_0, o5s_1, o5s_2, o5s_3, o5s_4, o5s_5, o17_0, o17_1, o19_0, o19_1, o20_0, o20_1, o20_2, o21_0, o21_1, o21_2, o21_3, p0, s0, z1', m1', m2', hg, u1', csz, cl, m3']
      rw [if_neg (by omega)]
      cases ho : isOth S w r c with
      | true => rw [if_neg (oth_ne ho)]; rfl
      | false => rw [if_pos (oth_eq ho), ih']; rfl
  rw [Y5008 H rfl (jrecv_in p0 rfl), F5008_0]
  exact lp _ 0 (Int.le_refl _) (by omega)
/-- how many rows are changed -/
theorem p_changed (h : PlW F H q a p S nm ra wl g w sp) : M2 (d + 4) 5002 [.ref p] H = some (.inl (some (.int (zI (chgL S g w (alv S 150 99 0))))), H) := by
  have W := h.2.2.1
  have hF := h.1
  have hle := alv_le W
  obtain ⟨ins, on, v1, v2, v3, mc, l, s0, s1, s2⟩ := h.rows
  have hl := rows_len s2
  have hsz := h_size (d := d + 2) s1
  have p0 := h.2.2.2.2.1.1
  have lp : ∀ (s : List Int) (n : Nat) (acc : Int), (alv S 150 99 0).drop n = s → n ≤ (alv S 150 99 0).length → 0 ≤ acc → acc ≤ n → G2 (d + 3) 5002 4 [.ref p, .int (zI acc), .int (zI n)] [] H = some (.inl (some (.int (zI (acc + chgL S g w s)))), H) := by
    intro s
    induction s with
    | nil =>
      intro n acc hn hnl a0 a1
      have : (alv S 150 99 0).length ≤ n := by
        have := congrArg List.length hn
        simp at this
        omega
      rw [F5002_4]
      simp (disch := first | assumption | omega | decide | exact okF_i | exact okF_r | exact okF_n | exact okF_j | rfl) only [jc_ref, rI_int, rR_ref, rR_null, rJ_long, ckR_ref, ckR_null, ckr_ref, ckr_null, ckW_int, ckW_ref, ckW_null, cI_ok, cR_ok, cR_null, cV_ok, cJ_ok, qH_eq, qD_in, aG_ref, aS_ref, aL_ref, pF_ref, cK_ref, cK_null, zI_lit, zJ_lit, zI_add, zI_sub, zI_mul, zI_neg, zI_eq, zI_lt, zI_le, Int.reduceLT, Int.reduceLE, Int.reduceAdd, Int.reduceSub, Int.reduceMul, Int.reduceNeg, Int.reduceEq, Int.reduceNe, reduceIte, jf_in, pFc_in, aGi, aGb, aSi, aLc_in, cKc_in, nA_in, jm_s1, jm_s2, jm_p1, jm_p2, jm_b, jn_b, jn_s, jn_p, jset_jset, jset_jpush2, ckR_is, ckr_is, rR_is, ckW_is, cR_is, obi2, ckW_int, eq_self, if_true, ref_null, if_false, ne_eq, not_true_eq_false, not_false_eq_true, decide_true, decide_false, decide_not, Bool.true_and, Bool.false_and, Bool.and_true, Bool.and_false, Bool.true_or, Bool.false_or, Bool.or_true, Bool.or_false, Bool.not_true, Bool.not_false, Bool.false_eq_true, bI_t, bI_f, Int.natCast_one, Int.cast_ofNat_Int, Int.natCast_zero, o23_0, o23_1, o23_2, n23, o23s_0, o23s_1, o23s_2, o12_0, o12_1, o13_0, o13_1, o13_2, o13_3, o13_4, o13_5, o13_6, o14_0, o14_1, o14_2, o14_3, o14_4, o14_5, o3_0, o3_1, o3_2, o3_3, o3_4, o11_0, o11_1, o11_2, o11_3, o4_0, o4_1, o4_2, o4_3, o4_4, o4_5, o4_6, o5_0, o5_1, o5_2, o5_3, o5_4, o5_5, n5, o5s_0, o5s_1, o5s_2, o5s_3, o5s_4, o5s_5, o17_0, o17_1, o19_0, o19_1, o20_0, o20_1, o20_2, o21_0, o21_1, o21_2, o21_3, p0, s0, hsz, chgL, Int.add_zero]
      rw [if_pos (by omega)]
    | cons x s ih =>
      intro n acc hn hnl a0 a1
      obtain ⟨e1, e2, e3, e4, x0, x1, x2⟩ := rows_at s2 rfl hn
      have hgr := h_get (d := d + 2) (i := n) s1 (by omega) (by omega) (by omega) (by omega)
      rw [Int.toNat_natCast, e1] at hgr
      have gs := p_goes (d := d + 1) hF h.2.2.2.2.1 e2 x0 x1
      have ch := p_isChanged (d := d) hF h.2.1 W s0 h.2.2.2.2.1 e2 x0 x1 ((W.2.1 x x0 x1).1.2 x2).1
      obtain ⟨xe, xg, m1, m2, m3⟩ := e2
      have m1' := hF.m m1
      have cg := chgL_rg (S := S) (g := g) (w := w) s
      have e : chgL S g w (x :: s) = (if g x.toNat = false ∧ chB S w x = true then 1 else 0) + chgL S g w s := rfl
      have c1 : ((n + 1 : Nat) : Int) = (n : Int) + 1 := by omega
      rw [F5002_4, e]
      cases hg : g x.toNat with
      | true =>
        rw [hg] at gs
        rw [if_neg (by simp), Int.zero_add, ← ih (n + 1) acc e3 (by omega) a0 (by omega), c1]
        simp (disch := first | assumption | omega | decide | exact okF_i | exact okF_r | exact okF_n | exact okF_j | rfl) only [jc_ref, rI_int, rR_ref, rR_null, rJ_long, ckR_ref, ckR_null, ckr_ref, ckr_null, ckW_int, ckW_ref, ckW_null, cI_ok, cR_ok, cR_null, cV_ok, cJ_ok, qH_eq, qD_in, aG_ref, aS_ref, aL_ref, pF_ref, cK_ref, cK_null, zI_lit, zJ_lit, zI_add, zI_sub, zI_mul, zI_neg, zI_eq, zI_lt, zI_le, Int.reduceLT, Int.reduceLE, Int.reduceAdd, Int.reduceSub, Int.reduceMul, Int.reduceNeg, Int.reduceEq, Int.reduceNe, reduceIte, jf_in, pFc_in, aGi, aGb, aSi, aLc_in, cKc_in, nA_in, jm_s1, jm_s2, jm_p1, jm_p2, jm_b, jn_b, jn_s, jn_p, jset_jset, jset_jpush2, ckR_is, ckr_is, rR_is, ckW_is, cR_is, obi2, ckW_int, eq_self, if_true, ref_null, if_false, ne_eq, not_true_eq_false, not_false_eq_true, decide_true, decide_false, decide_not, Bool.true_and, Bool.false_and, Bool.and_true, Bool.and_false, Bool.true_or, Bool.false_or, Bool.or_true, Bool.or_false, Bool.not_true, Bool.not_false, Bool.false_eq_true, bI_t, bI_f, Int.natCast_one, Int.cast_ofNat_Int, Int.natCast_zero, o23_0, o23_1, o23_2, n23, o23s_0, o23s_1, o23s_2, o12_0, o12_1, o13_0, o13_1, o13_2, o13_3, o13_4, o13_5, o13_6, o14_0, o14_1, o14_2, o14_3, o14_4, o14_5, o3_0, o3_1, o3_2, o3_3, o3_4, o11_0, o11_1, o11_2, o11_3, o4_0, o4_1, o4_2, o4_3, o4_4, o4_5, o4_6, o5_0, o5_1, o5_2, o5_3, o5_4, o5_5, n5, o5s_0, o5s_1, o5s_2, o5s_3, o5s_4, o5s_5, o17_0, o17_1, o19_0, o19_1, o20_0, o20_1, o20_2, o21_0, o21_1, o21_2, o21_3, p0, s0, hsz, hgr, m1', gs]
        rw [if_neg (by omega)]
      | false =>
        rw [hg] at gs
        cases hc : chB S w x with
        | true =>
          rw [hc] at ch
          rw [if_pos ⟨rfl, rfl⟩, ← Int.add_assoc, ← ih (n + 1) (acc + 1) e3 (by omega) (by omega) (by omega), c1]
          simp (disch := first | assumption | omega | decide | exact okF_i | exact okF_r | exact okF_n | exact okF_j | rfl) only [jc_ref, rI_int, rR_ref, rR_null, rJ_long, ckR_ref, ckR_null, ckr_ref, ckr_null, ckW_int, ckW_ref, ckW_null, cI_ok, cR_ok, cR_null, cV_ok, cJ_ok, qH_eq, qD_in, aG_ref, aS_ref, aL_ref, pF_ref, cK_ref, cK_null, zI_lit, zJ_lit, zI_add, zI_sub, zI_mul, zI_neg, zI_eq, zI_lt, zI_le, Int.reduceLT, Int.reduceLE, Int.reduceAdd, Int.reduceSub, Int.reduceMul, Int.reduceNeg, Int.reduceEq, Int.reduceNe, reduceIte, jf_in, pFc_in, aGi, aGb, aSi, aLc_in, cKc_in, nA_in, jm_s1, jm_s2, jm_p1, jm_p2, jm_b, jn_b, jn_s, jn_p, jset_jset, jset_jpush2, ckR_is, ckr_is, rR_is, ckW_is, cR_is, obi2, ckW_int, eq_self, if_true, ref_null, if_false, ne_eq, not_true_eq_false, not_false_eq_true, decide_true, decide_false, decide_not, Bool.true_and, Bool.false_and, Bool.and_true, Bool.and_false, Bool.true_or, Bool.false_or, Bool.or_true, Bool.or_false, Bool.not_true, Bool.not_false, Bool.false_eq_true, bI_t, bI_f, Int.natCast_one, Int.cast_ofNat_Int, Int.natCast_zero, o23_0, o23_1, o23_2, n23, o23s_0, o23s_1, o23s_2, o12_0, o12_1, o13_0, o13_1, o13_2, o13_3, o13_4, o13_5, o13_6, o14_0, o14_1, o14_2, o14_3, o14_4, o14_5, o3_0, o3_1, o3_2, o3_3, o3_4, o11_0, o11_1, o11_2, o11_3, o4_0, o4_1, o4_2, o4_3, o4_4, o4_5, o4_6, o5_0, o5_1, o5_2, o5_3, o5_4, o5_5, n5, o5s_0, o5s_1, o5s_2, o5s_3, o5s_4, o5s_5, o17_0, o17_1, o19_0, o19_1, o20_0, o20_1, o20_2, o21_0, o21_1, o21_2, o21_3, p0, s0, hsz, hgr, m1', gs, ch]
          rw [if_neg (by omega)]
        | false =>
          rw [hc] at ch
          rw [if_neg (by simp), Int.zero_add, ← ih (n + 1) acc e3 (by omega) a0 (by omega), c1]
          simp (disch := first | assumption | omega | decide | exact okF_i | exact okF_r | exact okF_n | exact okF_j | rfl) only [jc_ref, rI_int, rR_ref, rR_null, rJ_long, ckR_ref, ckR_null, ckr_ref, ckr_null, ckW_int, ckW_ref, ckW_null, cI_ok, cR_ok, cR_null, cV_ok, cJ_ok, qH_eq, qD_in, aG_ref, aS_ref, aL_ref, pF_ref, cK_ref, cK_null, zI_lit, zJ_lit, zI_add, zI_sub, zI_mul, zI_neg, zI_eq, zI_lt, zI_le, Int.reduceLT, Int.reduceLE, Int.reduceAdd, Int.reduceSub, Int.reduceMul, Int.reduceNeg, Int.reduceEq, Int.reduceNe, reduceIte, jf_in, pFc_in, aGi, aGb, aSi, aLc_in, cKc_in, nA_in, jm_s1, jm_s2, jm_p1, jm_p2, jm_b, jn_b, jn_s, jn_p, jset_jset, jset_jpush2, ckR_is, ckr_is, rR_is, ckW_is, cR_is, obi2, ckW_int, eq_self, if_true, ref_null, if_false, ne_eq, not_true_eq_false, not_false_eq_true, decide_true, decide_false, decide_not, Bool.true_and, Bool.false_and, Bool.and_true, Bool.and_false, Bool.true_or, Bool.false_or, Bool.or_true, Bool.or_false, Bool.not_true, Bool.not_false, Bool.false_eq_true, bI_t, bI_f, Int.natCast_one, Int.cast_ofNat_Int, Int.natCast_zero, o23_0, o23_1, o23_2, n23, o23s_0, o23s_1, o23s_2, o12_0, o12_1, o13_0, o13_1, o13_2, o13_3, o13_4, o13_5, o13_6, o14_0, o14_1, o14_2, o14_3, o14_4, o14_5, o3_0, o3_1, o3_2, o3_3, o3_4, o11_0, o11_1, o11_2, o11_3, o4_0, o4_1, o4_2, o4_3, o4_4, o4_5, o4_6, o5_0, o5_1, o5_2, o5_3, o5_4, o5_5, n5, o5s_0, o5s_1, o5s_2, o5s_3, o5s_4, o5s_5, o17_0, o17_1, o19_0, o19_1, o20_0, o20_1, o20_2, o21_0, o21_1, o21_2, o21_3, p0, s0, hsz, hgr, m1', gs, ch]
          rw [if_neg (by omega)]
  have := lp _ 0 0 rfl (Nat.zero_le _) (Int.le_refl _) (Int.le_refl _)
  rw [List.drop_zero, Int.zero_add] at this
  rw [Y5002 H (jrecv_in p0 rfl), F5002_0]
  exact this
/-- a row, as the heap has it -/
def RowH (H : AH) (b : Nat) (lo : Nat) (r t : Int) (cs : Int → Int) : Prop := ∃ (e : Nat) (g : Int → Int), jm H b = some (23, 3, o23 r t (.ref e)) ∧ jm H e = some (1000, 4, aI g) ∧ (∀ c, 0 ≤ c → c < 4 → g c = cs c) ∧ lo ≤ b ∧ b < H.1 ∧ lo ≤ e ∧ e < H.1
theorem RowH.fr {lo : Nat} (h : RowH H b lo r t cs) (fr : Fr H H2 P) (hP : ∀ x, P x → x < lo) : RowH H2 b lo r t cs := by
  obtain ⟨e, g, m1, m2, m3, b1, b2, e1, e2⟩ := h
  exact ⟨e, g, (fr.2.2 b b2 fun z => by have := hP _ z; omega).trans m1, (fr.2.2 e e2 fun z => by have := hP _ z; omega).trans m2, m3, b1, Nat.lt_of_lt_of_le b2 fr.1, e1, Nat.lt_of_lt_of_le e2 fr.1⟩
/-- another row of the same number -/
theorem p_other (hF : Fzn F H) (W : StW S) (hp : PH H p a wl g w sp) (hr : RowF F b r (S (249 + r)) (cellS S r)) (r0 : 0 ≤ r) (r1 : r < 99) :
    ∃ H2, M2 (d + 3) 5012 [.ref p, .ref b] H = some (.inl (some (.ref (H.1 + 1))), H2) ∧ RowH H2 (H.1 + 1) H.1 r (S (249 + r)) (celW (cellS S r) w r) ∧ Fr H H2 (fun _ => False) ∧ H2.1 = H.1 + 2 ∧ H2.2.1 = H.2.1 + 7 := by
  have TA := W.ta r0 r1
  have z4 : (zI 4).toNatClampNeg = 4 := by decide
  have p9 := hp.2.2.2.2.1
  have lp : ∀ (j : Nat) (c : Int) (G : Int → Int), 0 ≤ c → c + j = 4 → (∀ k, 0 ≤ k → k < c → G k = celW (cellS S r) w r k) → ∃ G2' : Int → Int, (∀ k, 0 ≤ k → k < 4 → G2' k = celW (cellS S r) w r k) ∧ G2 (d + 2) 5012 6 [.ref p, .ref b, .ref H.1, .int (zI c)] [] (jpush H (1000, 4, aI G)) = some (.inl (some (.ref (H.1 + 1))), jpush (jpush H (1000, 4, aI G2')) (23, 3, o23 r (S (249 + r)) (.ref H.1))) := by
    intro j
    induction j with
    | zero =>
      intro c G c0 hc hG
      have fr1 : Fr H (jpush H (1000, 4, aI G)) (fun _ => False) := Fr.push
      have hF1 : Fzn F (jpush H (1000, 4, aI G)) := hF.f0 fr1
      have hF2 : Fzn F (jpush (jpush H (1000, 4, aI G)) (23, 3, o23 0 0 .null)) := hF1.f0 Fr.push
      obtain ⟨re, rg, m1, m2, m3⟩ := hr
      have m1' := hF2.m m1
      have m0 : jm (jpush (jpush H (1000, 4, aI G)) (23, 3, o23 0 0 .null)) (H.1 + 1) = some (23, 3, o23 0 0 .null) := jm_p1
      have nw : M2 (d + 2) 23900 [.ref (H.1 + 1), .int (zI r), .int (zI (S (249 + r))), .ref H.1] (jpush (jpush H (1000, 4, aI G)) (23, 3, o23 0 0 .null)) = some (.inl none, jpush (jpush H (1000, 4, aI G)) (23, 3, o23 r (S (249 + r)) (.ref H.1))) := by
        rw [Y23900 _ rfl (jrecv_in m0 rfl), F23900_0]
        simp (disch := first | assumption | omega | decide | exact okF_i | exact okF_r | exact okF_n | exact okF_j | rfl) only [jc_ref, rI_int, rR_ref, rR_null, rJ_long, ckR_ref, ckR_null, ckr_ref, ckr_null, ckW_int, ckW_ref, ckW_null, cI_ok, cR_ok, cR_null, cV_ok, cJ_ok, qH_eq, qD_in, aG_ref, aS_ref, aL_ref, pF_ref, cK_ref, cK_null, zI_lit, zJ_lit, zI_add, zI_sub, zI_mul, zI_neg, zI_eq, zI_lt, zI_le, Int.reduceLT, Int.reduceLE, Int.reduceAdd, Int.reduceSub, Int.reduceMul, Int.reduceNeg, Int.reduceEq, Int.reduceNe, reduceIte, jf_in, pFc_in, aGi, aGb, aSi, aLc_in, cKc_in, nA_in, jm_s1, jm_s2, jm_p1, jm_p2, jm_b, jn_b, jn_s, jn_p, jset_jset, jset_jpush2, ckR_is, ckr_is, rR_is, ckW_is, cR_is, obi2, ckW_int, eq_self, if_true, ref_null, if_false, ne_eq, not_true_eq_false, not_false_eq_true, decide_true, decide_false, decide_not, Bool.true_and, Bool.false_and, Bool.and_true, Bool.and_false, Bool.true_or, Bool.false_or, Bool.or_true, Bool.or_false, Bool.not_true, Bool.not_false, Bool.false_eq_true, bI_t, bI_f, Int.natCast_one, Int.cast_ofNat_Int, Int.natCast_zero, o23_0, o23_1, o23_2, n23, o23s_0, o23s_1, o23s_2, o12_0, o12_1, o13_0, o13_1, o13_2, o13_3, o13_4, o13_5, o13_6, o14_0, o14_1, o14_2, o14_3, o14_4, o14_5, o3_0, o3_1, o3_2, o3_3, o3_4, o11_0, o11_1, o11_2, o11_3, o4_0, o4_1, o4_2, o4_3, o4_4, o4_5, o4_6, o5_0, o5_1, o5_2, o5_3, o5_4, o5_5, n5, o5s_0, o5s_1, o5s_2, o5s_3, o5s_4, o5s_5, o17_0, o17_1, o19_0, o19_1, o20_0, o20_1, o20_2, o21_0, o21_1, o21_2, o21_3, m0]
        exact congrArg (fun h => (some (Sum.inl none, h) : Rz)) (jset_jpush2 (H := jpush H (1000, 4, aI G)))
      refine ⟨G, fun k k0 k1 => hG k k0 (by omega), ?_⟩
      rw [F5012_6]
      simp (disch := first | assumption | omega | decide | exact okF_i | exact okF_r | exact okF_n | exact okF_j | rfl) only [jc_ref, rI_int, rR_ref, rR_null, rJ_long, ckR_ref, ckR_null, ckr_ref, ckr_null, ckW_int, ckW_ref, ckW_null, cI_ok, cR_ok, cR_null, cV_ok, cJ_ok, qH_eq, qD_in, aG_ref, aS_ref, aL_ref, pF_ref, cK_ref, cK_null, zI_lit, zJ_lit, zI_add, zI_sub, zI_mul, zI_neg, zI_eq, zI_lt, zI_le, Int.reduceLT, Int.reduceLE, Int.reduceAdd, Int.reduceSub, Int.reduceMul, Int.reduceNeg, Int.reduceEq, Int.reduceNe, reduceIte, jf_in, pFc_in, aGi, aGb, aSi, aLc_in, cKc_in, nA_in, jm_s1, jm_s2, jm_p1, jm_p2, jm_b, jn_b, jn_s, jn_p, jset_jset, jset_jpush2, ckR_is, ckr_is, rR_is, ckW_is, cR_is, obi2, ckW_int, eq_self, if_true, ref_null, if_false, ne_eq, not_true_eq_false, not_false_eq_true, decide_true, decide_false, decide_not, Bool.true_and, Bool.false_and, Bool.and_true, Bool.and_false, Bool.true_or, Bool.false_or, Bool.or_true, Bool.or_false, Bool.not_true, Bool.not_false, Bool.false_eq_true, bI_t, bI_f, Int.natCast_one, Int.cast_ofNat_Int, Int.natCast_zero, o23_0, o23_1, o23_2, n23, o23s_0, o23s_1, o23s_2, o12_0, o12_1, o13_0, o13_1, o13_2, o13_3, o13_4, o13_5, o13_6, o14_0, o14_1, o14_2, o14_3, o14_4, o14_5, o3_0, o3_1, o3_2, o3_3, o3_4, o11_0, o11_1, o11_2, o11_3, o4_0, o4_1, o4_2, o4_3, o4_4, o4_5, o4_6, o5_0, o5_1, o5_2, o5_3, o5_4, o5_5, n5, o5s_0, o5s_1, o5s_2, o5s_3, o5s_4, o5s_5, o17_0, o17_1, o19_0, o19_1, o20_0, o20_1, o20_2, o21_0, o21_1, o21_2, o21_3]
      rw [if_pos (by omega)]
      simp (disch := first | assumption | omega | decide | exact okF_i | exact okF_r | exact okF_n | exact okF_j | rfl) only [jc_ref, rI_int, rR_ref, rR_null, rJ_long, ckR_ref, ckR_null, ckr_ref, ckr_null, ckW_int, ckW_ref, ckW_null, cI_ok, cR_ok, cR_null, cV_ok, cJ_ok, qH_eq, qD_in, aG_ref, aS_ref, aL_ref, pF_ref, cK_ref, cK_null, zI_lit, zJ_lit, zI_add, zI_sub, zI_mul, zI_neg, zI_eq, zI_lt, zI_le, Int.reduceLT, Int.reduceLE, Int.reduceAdd, Int.reduceSub, Int.reduceMul, Int.reduceNeg, Int.reduceEq, Int.reduceNe, reduceIte, jf_in, pFc_in, aGi, aGb, aSi, aLc_in, cKc_in, nA_in, jm_s1, jm_s2, jm_p1, jm_p2, jm_b, jn_b, jn_s, jn_p, jset_jset, jset_jpush2, ckR_is, ckr_is, rR_is, ckW_is, cR_is, obi2, ckW_int, eq_self, if_true, ref_null, if_false, ne_eq, not_true_eq_false, not_false_eq_true, decide_true, decide_false, decide_not, Bool.true_and, Bool.false_and, Bool.and_true, Bool.and_false, Bool.true_or, Bool.false_or, Bool.or_true, Bool.or_false, Bool.not_true, Bool.not_false, Bool.false_eq_true, bI_t, bI_f, Int.natCast_one, Int.cast_ofNat_Int, Int.natCast_zero, o23_0, o23_1, o23_2, n23, o23s_0, o23s_1, o23s_2, o12_0, o12_1, o13_0, o13_1, o13_2, o13_3, o13_4, o13_5, o13_6, o14_0, o14_1, o14_2, o14_3, o14_4, o14_5, o3_0, o3_1, o3_2, o3_3, o3_4, o11_0, o11_1, o11_2, o11_3, o4_0, o4_1, o4_2, o4_3, o4_4, o4_5, o4_6, o5_0, o5_1, o5_2, o5_3, o5_4, o5_5, n5, o5s_0, o5s_1, o5s_2, o5s_3, o5s_4, o5s_5, o17_0, o17_1, o19_0, o19_1, o20_0, o20_1, o20_2, o21_0, o21_1, o21_2, o21_3, m1', nw]
    | succ j ih =>
      intro c G c0 hc hG
      have fr1 : Fr H (jpush H (1000, 4, aI G)) (fun _ => False) := Fr.push
      have hF1 : Fzn F (jpush H (1000, 4, aI G)) := hF.f0 fr1
      have hp1 := hp.fr fr1 fun _ _ z => z
      have cl := p_cell (d := d) hF1 hp1 hr (W.csw r0 r1) r0 r1 c0 (show c < 4 by omega)
      obtain ⟨G', g1, g2⟩ := ih (c + 1) (fset G c (celW (cellS S r) w r c)) (by omega) (by omega) (fun k k0 k1 => by
        by_cases hk : k = c
        · subst hk; rw [fset_eq]
        · rw [fset_ne hk]; exact hG k k0 (by omega))
      refine ⟨G', g1, ?_⟩
      rw [← g2]
      conv => lhs; rw [F5012_6]
      simp (disch := first | assumption | omega | decide | exact okF_i | exact okF_r | exact okF_n | exact okF_j | rfl) only [jc_ref, rI_int, rR_ref, rR_null, rJ_long, ckR_ref, ckR_null, ckr_ref, ckr_null, ckW_int, ckW_ref, ckW_null, cI_ok, cR_ok, cR_null, cV_ok, cJ_ok, qH_eq, qD_in, aG_ref, aS_ref, aL_ref, pF_ref, cK_ref, cK_null, zI_lit, zJ_lit, zI_add, zI_sub, zI_mul, zI_neg, zI_eq, zI_lt, zI_le, Int.reduceLT, Int.reduceLE, Int.reduceAdd, Int.reduceSub, Int.reduceMul, Int.reduceNeg, Int.reduceEq, Int.reduceNe, reduceIte, jf_in, pFc_in, aGi, aGb, aSi, aLc_in, cKc_in, nA_in, jm_s1, jm_s2, jm_p1, jm_p2, jm_b, jn_b, jn_s, jn_p, jset_jset, jset_jpush2, ckR_is, ckr_is, rR_is, ckW_is, cR_is, obi2, ckW_int, eq_self, if_true, ref_null, if_false, ne_eq, not_true_eq_false, not_false_eq_true, decide_true, decide_false, decide_not, Bool.true_and, Bool.false_and, Bool.and_true, Bool.and_false, Bool.true_or, Bool.false_or, Bool.or_true, Bool.or_false, Bool.not_true, Bool.not_false, Bool.false_eq_true, bI_t, bI_f, Int.natCast_one, Int.cast_ofNat_Int, Int.natCast_zero, o23_0, o23_1, o23_2, n23, o23s_0, o23s_1, o23s_2, o12_0, o12_1, o13_0, o13_1, o13_2, o13_3, o13_4, o13_5, o13_6, o14_0, o14_1, o14_2, o14_3, o14_4, o14_5, o3_0, o3_1, o3_2, o3_3, o3_4, o11_0, o11_1, o11_2, o11_3, o4_0, o4_1, o4_2, o4_3, o4_4, o4_5, o4_6, o5_0, o5_1, o5_2, o5_3, o5_4, o5_5, n5, o5s_0, o5s_1, o5s_2, o5s_3, o5s_4, o5s_5, o17_0, o17_1, o19_0, o19_1, o20_0, o20_1, o20_2, o21_0, o21_1, o21_2, o21_3, cl, aS_ref, jm_p1, jset_jpush2]
      rw [if_neg (by omega)]
  obtain ⟨G', g1, g2⟩ := lp 4 0 (fun _ => 0) (Int.le_refl _) (by omega) (fun k k0 k1 => by omega)
  have n1 : H.1 ≠ H.1 + 1 := by omega
  refine ⟨_, ?_, ⟨H.1, G', jm_p1, (jm_p2 n1).trans jm_p1, g1, Nat.le_succ _, Nat.lt_succ_self _, Nat.le_refl _, Nat.lt_succ_of_lt (Nat.lt_succ_self _)⟩, Fr.push.tr Fr.push, rfl, rfl⟩
  rw [Y5012 H rfl (jrecv_in hp.1 rfl), F5012_0]
  simp (disch := first | assumption | omega | decide | exact okF_i | exact okF_r | exact okF_n | exact okF_j | rfl) only [jc_ref, rI_int, rR_ref, rR_null, rJ_long, ckR_ref, ckR_null, ckr_ref, ckr_null, ckW_int, ckW_ref, ckW_null, cI_ok, cR_ok, cR_null, cV_ok, cJ_ok, qH_eq, qD_in, aG_ref, aS_ref, aL_ref, pF_ref, cK_ref, cK_null, zI_lit, zJ_lit, zI_add, zI_sub, zI_mul, zI_neg, zI_eq, zI_lt, zI_le, Int.reduceLT, Int.reduceLE, Int.reduceAdd, Int.reduceSub, Int.reduceMul, Int.reduceNeg, Int.reduceEq, Int.reduceNe, reduceIte, jf_in, pFc_in, aGi, aGb, aSi, aLc_in, cKc_in, nA_in, jm_s1, jm_s2, jm_p1, jm_p2, jm_b, jn_b, jn_s, jn_p, jset_jset, jset_jpush2, ckR_is, ckr_is, rR_is, ckW_is, cR_is, obi2, ckW_int, eq_self, if_true, ref_null, if_false, ne_eq, not_true_eq_false, not_false_eq_true, decide_true, decide_false, decide_not, Bool.true_and, Bool.false_and, Bool.and_true, Bool.and_false, Bool.true_or, Bool.false_or, Bool.or_true, Bool.or_false, Bool.not_true, Bool.not_false, Bool.false_eq_true, bI_t, bI_f, Int.natCast_one, Int.cast_ofNat_Int, Int.natCast_zero, o23_0, o23_1, o23_2, n23, o23s_0, o23s_1, o23s_2, o12_0, o12_1, o13_0, o13_1, o13_2, o13_3, o13_4, o13_5, o13_6, o14_0, o14_1, o14_2, o14_3, o14_4, o14_5, o3_0, o3_1, o3_2, o3_3, o3_4, o11_0, o11_1, o11_2, o11_3, o4_0, o4_1, o4_2, o4_3, o4_4, o4_5, o4_6, o5_0, o5_1, o5_2, o5_3, o5_4, o5_5, n5, o5s_0, o5s_1, o5s_2, o5s_3, o5s_4, o5s_5, o17_0, o17_1, o19_0, o19_1, o20_0, o20_1, o20_2, o21_0, o21_1, o21_2, o21_3, z4]
  exact g2
end
