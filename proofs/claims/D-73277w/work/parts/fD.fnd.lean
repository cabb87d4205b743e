/-! statements as objects; which rows one is about -/
-- jc_ref, rI_int, rR_ref, rR_null, rJ_long, ckR_ref, ckR_null, ckr_ref, ckr_null, ckW_int, ckW_ref, ckW_null, cI_ok, cR_ok, cR_null, cV_ok, cJ_ok, qH_eq, qD_in, aG_ref, aS_ref, aL_ref, pF_ref, cK_ref, cK_null, zI_lit, zJ_lit, zI_add, zI_sub, zI_mul, zI_neg, zI_eq, zI_lt, zI_le, Int.reduceLT, Int.reduceLE, Int.reduceAdd, Int.reduceSub, Int.reduceMul, Int.reduceNeg, Int.reduceEq, Int.reduceNe, reduceIte, jf_in, pFc_in, aGi, aGb, aSi, aLc_in, cKc_in, nA_in, jm_s1, jm_s2, jm_p1, jm_p2, jm_b, jn_b, jn_s, jn_p, jset_jset, jset_jpush2, ckR_is, ckr_is, rR_is, ckW_is, cR_is, obi2, ckW_int, eq_self, if_true, ref_null, if_false, ne_eq, not_true_eq_false, not_false_eq_true, decide_true, decide_false, decide_not, Bool.true_and, Bool.false_and, Bool.and_true, Bool.and_false, Bool.true_or, Bool.false_or, Bool.or_true, Bool.or_false, Bool.not_true, Bool.not_false, Bool.false_eq_true, bI_t, bI_f, Int.natCast_one, Int.cast_ofNat_Int, Int.natCast_zero, o23_0, o23_1, o23_2, o12_0, o12_1, o13_0, o13_1, o13_2, o13_3, o13_4, o13_5, o13_6, o14_0, o14_1, o14_2, o14_3, o14_4, o14_5, o3_0, o3_1, o3_2, o3_3, o3_4, o11_0, o11_1, o11_2, o11_3, o4_0, o4_1, o4_2, o4_3, o4_4, o4_5, o4_6, o5_0, o5_1, o5_2, o5_3, o5_4, o5_5, n5, o5s_0, o5s_1, o5s_2, o5s_3, o5s_4, o5s_5, o17_0, o17_1, o19_0, o19_1, o20_0, o20_1, o20_2, o21_0, o21_1, o21_2, o21_3 = jc_ref, rI_int, rR_ref, rR_null, rJ_long, ckR_ref, ckR_null, ckr_ref, ckr_null, ckW_int, ckW_ref, ckW_null, cI_ok, cR_ok, cR_null, cV_ok, cJ_ok, qH_eq, qD_in, aG_ref, aS_ref, aL_ref, pF_ref, cK_ref, cK_null, zI_lit, zJ_lit, zI_add, zI_sub, zI_mul, zI_neg, zI_eq, zI_lt, zI_le, Int.reduceLT, Int.reduceLE, Int.reduceAdd, Int.reduceSub, Int.reduceMul, Int.reduceNeg, Int.reduceEq, Int.reduceNe, reduceIte, jf_in, pFc_in, aGi, aGb, aSi, aLc_in, cKc_in, nA_in, jm_s1, jm_s2, jm_p1, jm_p2, jm_b, jn_b, jn_s, jn_p, jset_jset, jset_jpush2, ckR_is, ckr_is, rR_is, ckW_is, cR_is, obi2, ckW_int, eq_self, if_true, ref_null, if_false, ne_eq, not_true_eq_false, not_false_eq_true, decide_true, decide_false, decide_not, Bool.true_and, Bool.false_and, Bool.and_true, Bool.and_false, Bool.true_or, Bool.false_or, Bool.or_true, Bool.or_false, Bool.not_true, Bool.not_false, Bool.false_eq_true, bI_t, bI_f, Int.natCast_one, Int.cast_ofNat_Int, Int.natCast_zero, o23_0, o23_1, o23_2, o12_0, o12_1, o13_0, o13_1, o13_2, o13_3, o13_4, o13_5, o13_6, o14_0, o14_1, o14_2, o14_3, o14_4, o14_5, o3_0, o3_1, o3_2, o3_3, o3_4, o11_0, o11_1, o11_2, o11_3, o4_0, o4_1, o4_2, o4_3, o4_4, o4_5, o4_6, o5_0, o5_1, o5_2, o5_3, o5_4, o5_5, n5, o5s_0, o5s_1, o5s_2, o5s_3, o5s_4, o5s_5, o17_0, o17_1, o19_0, o19_1, o20_0, o20_1, o20_2, o21_0, o21_1, o21_2, o21_3
/-- a statement as the twin's line tells it -/
def StmF (F : Nat → Option Cl) (b : Nat) (S L : Int → Int) (to : Int) : Prop := (L to = 0 ∧ ∃ (ce : Nat) (g : Int → Int), F b = some (17, 2, o17 (L (to + 1)) (.ref ce)) ∧ F ce = some (1000, 4, aI g) ∧ ∀ c, 0 ≤ c → c < 4 → g c = insV S L to c) ∨
  ((L to = 1 ∨ L to = 2) ∧ ∃ we : Nat, LstF F we (L (to + 7)) (fun k wb => F wb = some (20, 3, o20 (L (to + 8 + 3 * k)) (L (to + 8 + 3 * k + 1)) (L (to + 8 + 3 * k + 2)))) ∧
    ((L to = 1 ∧ L (to + 2) = 0 ∧ F b = some (19, 2, o19 (L (to + 1)) (.ref we))) ∨ (L to = 2 ∧ ∃ (ce ve : Nat) (n : Nat) (gc gv : Int → Int), F b = some (21, 4, o21 (L (to + 1)) (.ref we) (.ref ce) (.ref ve)) ∧ F ce = some (1000, n, aI gc) ∧ F ve = some (1000, n, aI gv) ∧ (n : Int) = L (to + 2) ∧ ∀ k : Int, 0 ≤ k → k < n → gc k = L (to + 3 + 2 * k) ∧ gv k = L (to + 4 + 2 * k))))
theorem StmF.sub {F G : Nat → Option Cl} {b : Nat} {S L : Int → Int} {to : Int} (h : StmF F b S L to) (s : Sub F G) : StmF G b S L to := by
  rcases h with ⟨a, ce, g, b1, b2, b3⟩ | ⟨a, we, b1, b2⟩
  · exact Or.inl ⟨a, ce, g, s _ _ b1, s _ _ b2, b3⟩
  · refine Or.inr ⟨a, we, b1.sub s fun _ _ h => s _ _ h, ?_⟩
    rcases b2 with ⟨c, e⟩ | ⟨c, ce, ve, n, gc, gv, e1, e2, e3, e4⟩
    · exact Or.inl ⟨c, e.1, s _ _ e.2⟩
    · exact Or.inr ⟨c, ce, ve, n, gc, gv, s _ _ e1, s _ _ e2, s _ _ e3, e4⟩
section
variable {F : Nat → Option Cl} {d : Nat} {H H2 : AH} {a b e p q fb pb qd it hd wb rb we tg : Nat} {r t c k n f v x to : Int} {cs S L nm : Int → Int} {ra : Int → Nat} {wl : Nat} {g : Nat → Bool} {w : WS} {sp : Int → Int} {P : Nat → Prop} {Q : List Int}
theorem c_when (W : StW S) (hF : Fzn F H) (hb : RowF F rb r t (cellS S r)) (hw : F wb = some (20, 3, o20 (L (to + 8 + 3 * k)) (L (to + 8 + 3 * k + 1)) (L (to + 8 + 3 * k + 2)))) (r0 : 0 ≤ r) (r1 : r < 99) (c0 : 0 ≤ L (to + 8 + 3 * k)) (c1 : L (to + 8 + 3 * k) < 4) (g0 : 60 ≤ L (to + 8 + 3 * k + 1)) (g1 : L (to + 8 + 3 * k + 1) ≤ 62) (v0 : -1 ≤ L (to + 8 + 3 * k + 2)) (v1 : L (to + 8 + 3 * k + 2) ≤ 99) :
    M2 (d + 2) 20000 [.ref wb, .ref rb] H = some (.inl (some (bI (fndC S L r to k))), H) := by
  obtain ⟨re, rg, m1, m2, m3⟩ := hb
  replace m1 := hF.m m1
  replace m2 := hF.m m2
  replace hw := hF.m hw
  have m3' := m3 _ c0 c1
  have cr := W.cell r0 r1 c0 c1
  unfold fndC
  simp only
  have s23 : ∀ v : Int, -1 ≤ v → v ≤ 99 → G2 (d + 1) 20000 23 [.ref wb, .ref rb, .int (zI v)] [] H = some (.inl (some (bI (decide (L (to + 8 + 3 * k + 1) = 61) && decide (v = L (to + 8 + 3 * k + 2))))), H) := fun v a b => by
    rw [F20000_23]
    simp (disch := first | assumption | omega | decide | exact okF_i | exact okF_r | exact okF_n | exact okF_j | rfl) only [jc_ref, rI_int, rR_ref, rR_null, rJ_long, ckR_ref, ckR_null, ckr_ref, ckr_null, ckW_int, ckW_ref, ckW_null, cI_ok, cR_ok, cR_null, cV_ok, cJ_ok, qH_eq, qD_in, aG_ref, aS_ref, aL_ref, pF_ref, cK_ref, cK_null, zI_lit, zJ_lit, zI_add, zI_sub, zI_mul, zI_neg, zI_eq, zI_lt, zI_le, Int.reduceLT, Int.reduceLE, Int.reduceAdd, Int.reduceSub, Int.reduceMul, Int.reduceNeg, Int.reduceEq, Int.reduceNe, reduceIte, jf_in, pFc_in, aGi, aGb, aSi, aLc_in, cKc_in, nA_in, jm_s1, jm_s2, jm_p1, jm_p2, jm_b, jn_b, jn_s, jn_p, jset_jset, jset_jpush2, ckR_is, ckr_is, rR_is, ckW_is, cR_is, obi2, ckW_int, eq_self, if_true, ref_null, if_false, ne_eq, not_true_eq_false, not_false_eq_true, decide_true, decide_false, decide_not, Bool.true_and, Bool.false_and, Bool.and_true, Bool.and_false, Bool.true_or, Bool.false_or, Bool.or_true, Bool.or_false, Bool.not_true, Bool.not_false, Bool.false_eq_true, bI_t, bI_f, Int.natCast_one, Int.cast_ofNat_Int, Int.natCast_zero, o23_0, o23_1, o23_2, o12_0, o12_1, o13_0, o13_1, o13_2, o13_3, o13_4, o13_5, o13_6, o14_0, o14_1, o14_2, o14_3, o14_4, o14_5, o3_0, o3_1, o3_2, o3_3, o3_4, o11_0, o11_1, o11_2, o11_3, o4_0, o4_1, o4_2, o4_3, o4_4, o4_5, o4_6, o5_0, o5_1, o5_2, o5_3, o5_4, o5_5, n5, o5s_0, o5s_1, o5s_2, o5s_3, o5s_4, o5s_5, o17_0, o17_1, o19_0, o19_1, o20_0, o20_1, o20_2, o21_0, o21_1, o21_2, o21_3, hw]
    by_cases e1 : L (to + 8 + 3 * k + 1) = 61
    · by_cases e2 : v = L (to + 8 + 3 * k + 2)
      · simp [e1, e2, bI, zI_lit]
      · simp [e1, e2, bI, zI_lit]
    · simp [e1, bI, zI_lit]
  rw [Y20000 H rfl (jrecv_in hw rfl), F20000_0]
  by_cases e1 : cellS S r (L (to + 8 + 3 * k)) = -1
  · have s := s23 (-1) (by omega) (by omega)
    simp (disch := first | assumption | omega | decide | exact okF_i | exact okF_r | exact okF_n | exact okF_j | rfl) only [jc_ref, rI_int, rR_ref, rR_null, rJ_long, ckR_ref, ckR_null, ckr_ref, ckr_null, ckW_int, ckW_ref, ckW_null, cI_ok, cR_ok, cR_null, cV_ok, cJ_ok, qH_eq, qD_in, aG_ref, aS_ref, aL_ref, pF_ref, cK_ref, cK_null, zI_lit, zJ_lit, zI_add, zI_sub, zI_mul, zI_neg, zI_eq, zI_lt, zI_le, Int.reduceLT, Int.reduceLE, Int.reduceAdd, Int.reduceSub, Int.reduceMul, Int.reduceNeg, Int.reduceEq, Int.reduceNe, reduceIte, jf_in, pFc_in, aGi, aGb, aSi, aLc_in, cKc_in, nA_in, jm_s1, jm_s2, jm_p1, jm_p2, jm_b, jn_b, jn_s, jn_p, jset_jset, jset_jpush2, ckR_is, ckr_is, rR_is, ckW_is, cR_is, obi2, ckW_int, eq_self, if_true, ref_null, if_false, ne_eq, not_true_eq_false, not_false_eq_true, decide_true, decide_false, decide_not, Bool.true_and, Bool.false_and, Bool.and_true, Bool.and_false, Bool.true_or, Bool.false_or, Bool.or_true, Bool.or_false, Bool.not_true, Bool.not_false, Bool.false_eq_true, bI_t, bI_f, Int.natCast_one, Int.cast_ofNat_Int, Int.natCast_zero, o23_0, o23_1, o23_2, o12_0, o12_1, o13_0, o13_1, o13_2, o13_3, o13_4, o13_5, o13_6, o14_0, o14_1, o14_2, o14_3, o14_4, o14_5, o3_0, o3_1, o3_2, o3_3, o3_4, o11_0, o11_1, o11_2, o11_3, o4_0, o4_1, o4_2, o4_3, o4_4, o4_5, o4_6, o5_0, o5_1, o5_2, o5_3, o5_4, o5_5, n5, o5s_0, o5s_1, o5s_2, o5s_3, o5s_4, o5s_5, o17_0, o17_1, o19_0, o19_1, o20_0, o20_1, o20_2, o21_0, o21_1, o21_2, o21_3, hw, m1, m2, m3', e1, s]
    by_cases e2 : L (to + 8 + 3 * k + 2) < 0
    · rw [if_pos e2]
      have : L (to + 8 + 3 * k + 2) = -1 := by omega
      rw [this]
      simp
    · rw [if_neg e2]
      have h3 : ¬ (-1 : Int) = L (to + 8 + 3 * k + 2) := by omega
      simp [h3]
  · have h4 : 0 ≤ cellS S r (L (to + 8 + 3 * k)) := by omega
    by_cases e2 : L (to + 8 + 3 * k + 2) < 0
    · have e3 : L (to + 8 + 3 * k + 2) = -1 := by omega
      rw [if_pos e2]
      have s := s23 _ cr.1 cr.2
      simp (disch := first | assumption | omega | decide | exact okF_i | exact okF_r | exact okF_n | exact okF_j | rfl) only [jc_ref, rI_int, rR_ref, rR_null, rJ_long, ckR_ref, ckR_null, ckr_ref, ckr_null, ckW_int, ckW_ref, ckW_null, cI_ok, cR_ok, cR_null, cV_ok, cJ_ok, qH_eq, qD_in, aG_ref, aS_ref, aL_ref, pF_ref, cK_ref, cK_null, zI_lit, zJ_lit, zI_add, zI_sub, zI_mul, zI_neg, zI_eq, zI_lt, zI_le, Int.reduceLT, Int.reduceLE, Int.reduceAdd, Int.reduceSub, Int.reduceMul, Int.reduceNeg, Int.reduceEq, Int.reduceNe, reduceIte, jf_in, pFc_in, aGi, aGb, aSi, aLc_in, cKc_in, nA_in, jm_s1, jm_s2, jm_p1, jm_p2, jm_b, jn_b, jn_s, jn_p, jset_jset, jset_jpush2, ckR_is, ckr_is, rR_is, ckW_is, cR_is, obi2, ckW_int, eq_self, if_true, ref_null, if_false, ne_eq, not_true_eq_false, not_false_eq_true, decide_true, decide_false, decide_not, Bool.true_and, Bool.false_and, Bool.and_true, Bool.and_false, Bool.true_or, Bool.false_or, Bool.or_true, Bool.or_false, Bool.not_true, Bool.not_false, Bool.false_eq_true, bI_t, bI_f, Int.natCast_one, Int.cast_ofNat_Int, Int.natCast_zero, o23_0, o23_1, o23_2, o12_0, o12_1, o13_0, o13_1, o13_2, o13_3, o13_4, o13_5, o13_6, o14_0, o14_1, o14_2, o14_3, o14_4, o14_5, o3_0, o3_1, o3_2, o3_3, o3_4, o11_0, o11_1, o11_2, o11_3, o4_0, o4_1, o4_2, o4_3, o4_4, o4_5, o4_6, o5_0, o5_1, o5_2, o5_3, o5_4, o5_5, n5, o5s_0, o5s_1, o5s_2, o5s_3, o5s_4, o5s_5, o17_0, o17_1, o19_0, o19_1, o20_0, o20_1, o20_2, o21_0, o21_1, o21_2, o21_3, hw, m1, m2, m3', e3]
      rw [if_neg e1, s, e3, decide_eq_false e1, Bool.and_false, decide_eq_false (show ¬ cellS S r (L (to + 8 + 3 * k)) < 0 by omega), Bool.false_and]
    · rw [if_neg e2]
      have so := c_isSo (d := d) (H := H) (c := cellS S r (L (to + 8 + 3 * k))) (k := L (to + 8 + 3 * k + 1)) (n := L (to + 8 + 3 * k + 2)) ⟨by omega, by omega⟩ ⟨by omega, by omega⟩ ⟨by omega, by omega⟩
      rw [bI_int] at so ⊢
      simp (disch := first | assumption | omega | decide | exact okF_i | exact okF_r | exact okF_n | exact okF_j | rfl) only [jc_ref, rI_int, rR_ref, rR_null, rJ_long, ckR_ref, ckR_null, ckr_ref, ckr_null, ckW_int, ckW_ref, ckW_null, cI_ok, cR_ok, cR_null, cV_ok, cJ_ok, qH_eq, qD_in, aG_ref, aS_ref, aL_ref, pF_ref, cK_ref, cK_null, zI_lit, zJ_lit, zI_add, zI_sub, zI_mul, zI_neg, zI_eq, zI_lt, zI_le, Int.reduceLT, Int.reduceLE, Int.reduceAdd, Int.reduceSub, Int.reduceMul, Int.reduceNeg, Int.reduceEq, Int.reduceNe, reduceIte, jf_in, pFc_in, aGi, aGb, aSi, aLc_in, cKc_in, nA_in, jm_s1, jm_s2, jm_p1, jm_p2, jm_b, jn_b, jn_s, jn_p, jset_jset, jset_jpush2, ckR_is, ckr_is, rR_is, ckW_is, cR_is, obi2, ckW_int, eq_self, if_true, ref_null, if_false, ne_eq, not_true_eq_false, not_false_eq_true, decide_true, decide_false, decide_not, Bool.true_and, Bool.false_and, Bool.and_true, Bool.and_false, Bool.true_or, Bool.false_or, Bool.or_true, Bool.or_false, Bool.not_true, Bool.not_false, Bool.false_eq_true, bI_t, bI_f, Int.natCast_one, Int.cast_ofNat_Int, Int.natCast_zero, o23_0, o23_1, o23_2, o12_0, o12_1, o13_0, o13_1, o13_2, o13_3, o13_4, o13_5, o13_6, o14_0, o14_1, o14_2, o14_3, o14_4, o14_5, o3_0, o3_1, o3_2, o3_3, o3_4, o11_0, o11_1, o11_2, o11_3, o4_0, o4_1, o4_2, o4_3, o4_4, o4_5, o4_6, o5_0, o5_1, o5_2, o5_3, o5_4, o5_5, n5, o5s_0, o5s_1, o5s_2, o5s_3, o5s_4, o5s_5, o17_0, o17_1, o19_0, o19_1, o20_0, o20_1, o20_2, o21_0, o21_1, o21_2, o21_3, hw, m1, m2, m3']
      rw [if_neg e1, if_neg (by omega)]
      simp (disch := first | assumption | omega | decide | exact okF_i | exact okF_r | exact okF_n | exact okF_j | rfl) only [jc_ref, rI_int, rR_ref, rR_null, rJ_long, ckR_ref, ckR_null, ckr_ref, ckr_null, ckW_int, ckW_ref, ckW_null, cI_ok, cR_ok, cR_null, cV_ok, cJ_ok, qH_eq, qD_in, aG_ref, aS_ref, aL_ref, pF_ref, cK_ref, cK_null, zI_lit, zJ_lit, zI_add, zI_sub, zI_mul, zI_neg, zI_eq, zI_lt, zI_le, Int.reduceLT, Int.reduceLE, Int.reduceAdd, Int.reduceSub, Int.reduceMul, Int.reduceNeg, Int.reduceEq, Int.reduceNe, reduceIte, jf_in, pFc_in, aGi, aGb, aSi, aLc_in, cKc_in, nA_in, jm_s1, jm_s2, jm_p1, jm_p2, jm_b, jn_b, jn_s, jn_p, jset_jset, jset_jpush2, ckR_is, ckr_is, rR_is, ckW_is, cR_is, obi2, ckW_int, eq_self, if_true, ref_null, if_false, ne_eq, not_true_eq_false, not_false_eq_true, decide_true, decide_false, decide_not, Bool.true_and, Bool.false_and, Bool.and_true, Bool.and_false, Bool.true_or, Bool.false_or, Bool.or_true, Bool.or_false, Bool.not_true, Bool.not_false, Bool.false_eq_true, bI_t, bI_f, Int.natCast_one, Int.cast_ofNat_Int, Int.natCast_zero, o23_0, o23_1, o23_2, o12_0, o12_1, o13_0, o13_1, o13_2, o13_3, o13_4, o13_5, o13_6, o14_0, o14_1, o14_2, o14_3, o14_4, o14_5, o3_0, o3_1, o3_2, o3_3, o3_4, o11_0, o11_1, o11_2, o11_3, o4_0, o4_1, o4_2, o4_3, o4_4, o4_5, o4_6, o5_0, o5_1, o5_2, o5_3, o5_4, o5_5, n5, o5s_0, o5s_1, o5s_2, o5s_3, o5s_4, o5s_5, o17_0, o17_1, o19_0, o19_1, o20_0, o20_1, o20_2, o21_0, o21_1, o21_2, o21_3, so, okZ_B]
      rw [decide_eq_true h4, Bool.true_and]
/-- a statement finds a row -/
theorem c_isMeant (W : StW S) (hF : Fzn F H) (hb : RowF F rb r (S (249 + r)) (cellS S r)) (r0 : 0 ≤ r) (r1 : r < 99) (r2 : S (150 + r) = 1) (htg : tg = 19 ∨ tg = 21) {sz : Nat} {fc : Nat → Value} (m : jm H b = some (tg, sz, fc)) (fc0 : fc 0 = .int (zI (L (to + 1)))) (fc1 : fc 1 = .ref we) (hW : LstF F we (L (to + 7)) (fun k wb => F wb = some (20, 3, o20 (L (to + 8 + 3 * k)) (L (to + 8 + 3 * k + 1)) (L (to + 8 + 3 * k + 2))))) (t0 : 0 ≤ L (to + 1)) (t1 : L (to + 1) < 4) (C : CnW S L to) : M2 (d + 3) 18001 [.ref b, .ref rb] H = some (.inl (some (bI (fndS S L to r))), H) := by
  obtain ⟨⟨c0, c4⟩, C⟩ := C
  have co := W.co t0 t1
  have TA := W.ta r0 r1
  have hsz := hW.size hF
  obtain ⟨re, rg, m1, m2, m3⟩ := id hb
  have m1' := hF.m m1
  have ht : [17, 19, 21].elem tg = true := by rcases htg with rfl | rfl <;> rfl
  have ht2 : [19, 21].elem tg = true := by rcases htg with rfl | rfl <;> rfl
  have lp : ∀ (j : Nat) (k : Int), 0 ≤ k → k + j = L (to + 7) → G2 (d + 2) 18001 15 [.ref b, .ref rb, .int (zI k)] [] H = some (.inl (some (bI (allF' (fndC S L r to) j k))), H) := by
    intro j
    induction j with
    | zero =>
      intro k k0 hk
      rw [F18001_15]
      simp (disch := first | assumption | omega | decide | exact okF_i | exact okF_r | exact okF_n | exact okF_j | rfl) only [jc_ref, rI_int, rR_ref, rR_null, rJ_long, ckR_ref, ckR_null, ckr_ref, ckr_null, ckW_int, ckW_ref, ckW_null, cI_ok, cR_ok, cR_null, cV_ok, cJ_ok, qH_eq, qD_in, aG_ref, aS_ref, aL_ref, pF_ref, cK_ref, cK_null, zI_lit, zJ_lit, zI_add, zI_sub, zI_mul, zI_neg, zI_eq, zI_lt, zI_le, Int.reduceLT, Int.reduceLE, Int.reduceAdd, Int.reduceSub, Int.reduceMul, Int.reduceNeg, Int.reduceEq, Int.reduceNe, reduceIte, jf_in, pFc_in, aGi, aGb, aSi, aLc_in, cKc_in, nA_in, jm_s1, jm_s2, jm_p1, jm_p2, jm_b, jn_b, jn_s, jn_p, jset_jset, jset_jpush2, ckR_is, ckr_is, rR_is, ckW_is, cR_is, obi2, ckW_int, eq_self, if_true, ref_null, if_false, ne_eq, not_true_eq_false, not_false_eq_true, decide_true, decide_false, decide_not, Bool.true_and, Bool.false_and, Bool.and_true, Bool.and_false, Bool.true_or, Bool.false_or, Bool.or_true, Bool.or_false, Bool.not_true, Bool.not_false, Bool.false_eq_true, bI_t, bI_f, Int.natCast_one, Int.cast_ofNat_Int, Int.natCast_zero, o23_0, o23_1, o23_2, o12_0, o12_1, o13_0, o13_1, o13_2, o13_3, o13_4, o13_5, o13_6, o14_0, o14_1, o14_2, o14_3, o14_4, o14_5, o3_0, o3_1, o3_2, o3_3, o3_4, o11_0, o11_1, o11_2, o11_3, o4_0, o4_1, o4_2, o4_3, o4_4, o4_5, o4_6, o5_0, o5_1, o5_2, o5_3, o5_4, o5_5, n5, o5s_0, o5s_1, o5s_2, o5s_3, o5s_4, o5s_5, o17_0, o17_1, o19_0, o19_1, o20_0, o20_1, o20_2, o21_0, o21_1, o21_2, o21_3, m, jf_in ht2, fc1, hsz, allF']
      rw [if_pos (by omega)]
    | succ j ih =>
      intro k k0 hk
      obtain ⟨wb, w1, w2⟩ := hW.get hF k0 (by omega)
      have w1' := hF.m w1
      obtain ⟨x1, x2, x3⟩ := C k k0 (by omega)
      have cw := c_when (d := d) W hF hb w1 r0 r1 x1.1 (by omega) x2.1 x2.2 x3.1 x3.2
      have ih' := ih (k + 1) (by omega) (by omega)
      have e : allF' (fndC S L r to) (j + 1) k = (fndC S L r to k && allF' (fndC S L r to) j (k + 1)) := rfl
      rw [F18001_15, e]
      generalize allF' (fndC S L r to) j (k + 1) = rest at ih' ⊢
      simp (disch := first | assumption | omega | decide | exact okF_i | exact okF_r | exact okF_n | exact okF_j | rfl) only [jc_ref, rI_int, rR_ref, rR_null, rJ_long, ckR_ref, ckR_null, ckr_ref, ckr_null, ckW_int, ckW_ref, ckW_null, cI_ok, cR_ok, cR_null, cV_ok, cJ_ok, qH_eq, qD_in, aG_ref, aS_ref, aL_ref, pF_ref, cK_ref, cK_null, zI_lit, zJ_lit, zI_add, zI_sub, zI_mul, zI_neg, zI_eq, zI_lt, zI_le, Int.reduceLT, Int.reduceLE, Int.reduceAdd, Int.reduceSub, Int.reduceMul, Int.reduceNeg, Int.reduceEq, Int.reduceNe, reduceIte, jf_in, pFc_in, aGi, aGb, aSi, aLc_in, cKc_in, nA_in, jm_s1, jm_s2, jm_p1, jm_p2, jm_b, jn_b, jn_s, jn_p, jset_jset, jset_jpush2, ckR_is, ckr_is, rR_is, ckW_is, cR_is, obi2, ckW_int, eq_self, if_true, ref_null, if_false, ne_eq, not_true_eq_false, not_false_eq_true, decide_true, decide_false, decide_not, Bool.true_and, Bool.false_and, Bool.and_true, Bool.and_false, Bool.true_or, Bool.false_or, Bool.or_true, Bool.or_false, Bool.not_true, Bool.not_false, Bool.false_eq_true, bI_t, bI_f, Int.natCast_one, Int.cast_ofNat_Int, Int.natCast_zero, o23_0, o23_1, o23_2, o12_0, o12_1, o13_0, o13_1, o13_2, o13_3, o13_4, o13_5, o13_6, o14_0, o14_1, o14_2, o14_3, o14_4, o14_5, o3_0, o3_1, o3_2, o3_3, o3_4, o11_0, o11_1, o11_2, o11_3, o4_0, o4_1, o4_2, o4_3, o4_4, o4_5, o4_6, o5_0, o5_1, o5_2, o5_3, o5_4, o5_5, n5, o5s_0, o5s_1, o5s_2, o5s_3, o5s_4, o5s_5, o17_0, o17_1, o19_0, o19_1, o20_0, o20_1, o20_2, o21_0, o21_1, o21_2, o21_3, m, jf_in ht2, fc1, hsz, w2, w1', cw]
      rw [if_neg (by omega)]
      cases hq : fndC S L r to k with
      | true =>
        rw [hq] at cw
        simp (disch := first | assumption | omega | decide | exact okF_i | exact okF_r | exact okF_n | exact okF_j | rfl) only [jc_ref, rI_int, rR_ref, rR_null, rJ_long, ckR_ref, ckR_null, ckr_ref, ckr_null, ckW_int, ckW_ref, ckW_null, cI_ok, cR_ok, cR_null, cV_ok, cJ_ok, qH_eq, qD_in, aG_ref, aS_ref, aL_ref, pF_ref, cK_ref, cK_null, zI_lit, zJ_lit, zI_add, zI_sub, zI_mul, zI_neg, zI_eq, zI_lt, zI_le, Int.reduceLT, Int.reduceLE, Int.reduceAdd, Int.reduceSub, Int.reduceMul, Int.reduceNeg, Int.reduceEq, Int.reduceNe, reduceIte, jf_in, pFc_in, aGi, aGb, aSi, aLc_in, cKc_in, nA_in, jm_s1, jm_s2, jm_p1, jm_p2, jm_b, jn_b, jn_s, jn_p, jset_jset, jset_jpush2, ckR_is, ckr_is, rR_is, ckW_is, cR_is, obi2, ckW_int, eq_self, if_true, ref_null, if_false, ne_eq, not_true_eq_false, not_false_eq_true, decide_true, decide_false, decide_not, Bool.true_and, Bool.false_and, Bool.and_true, Bool.and_false, Bool.true_or, Bool.false_or, Bool.or_true, Bool.or_false, Bool.not_true, Bool.not_false, Bool.false_eq_true, bI_t, bI_f, Int.natCast_one, Int.cast_ofNat_Int, Int.natCast_zero, o23_0, o23_1, o23_2, o12_0, o12_1, o13_0, o13_1, o13_2, o13_3, o13_4, o13_5, o13_6, o14_0, o14_1, o14_2, o14_3, o14_4, o14_5, o3_0, o3_1, o3_2, o3_3, o3_4, o11_0, o11_1, o11_2, o11_3, o4_0, o4_1, o4_2, o4_3, o4_4, o4_5, o4_6, o5_0, o5_1, o5_2, o5_3, o5_4, o5_5, n5, o5s_0, o5s_1, o5s_2, o5s_3, o5s_4, o5s_5, o17_0, o17_1, o19_0, o19_1, o20_0, o20_1, o20_2, o21_0, o21_1, o21_2, o21_3, cw]
        exact ih'
      | false =>
        rw [hq] at cw
        simp (disch := first | assumption | omega | decide | exact okF_i | exact okF_r | exact okF_n | exact okF_j | rfl) only [jc_ref, rI_int, rR_ref, rR_null, rJ_long, ckR_ref, ckR_null, ckr_ref, ckr_null, ckW_int, ckW_ref, ckW_null, cI_ok, cR_ok, cR_null, cV_ok, cJ_ok, qH_eq, qD_in, aG_ref, aS_ref, aL_ref, pF_ref, cK_ref, cK_null, zI_lit, zJ_lit, zI_add, zI_sub, zI_mul, zI_neg, zI_eq, zI_lt, zI_le, Int.reduceLT, Int.reduceLE, Int.reduceAdd, Int.reduceSub, Int.reduceMul, Int.reduceNeg, Int.reduceEq, Int.reduceNe, reduceIte, jf_in, pFc_in, aGi, aGb, aSi, aLc_in, cKc_in, nA_in, jm_s1, jm_s2, jm_p1, jm_p2, jm_b, jn_b, jn_s, jn_p, jset_jset, jset_jpush2, ckR_is, ckr_is, rR_is, ckW_is, cR_is, obi2, ckW_int, eq_self, if_true, ref_null, if_false, ne_eq, not_true_eq_false, not_false_eq_true, decide_true, decide_false, decide_not, Bool.true_and, Bool.false_and, Bool.and_true, Bool.and_false, Bool.true_or, Bool.false_or, Bool.or_true, Bool.or_false, Bool.not_true, Bool.not_false, Bool.false_eq_true, bI_t, bI_f, Int.natCast_one, Int.cast_ofNat_Int, Int.natCast_zero, o23_0, o23_1, o23_2, o12_0, o12_1, o13_0, o13_1, o13_2, o13_3, o13_4, o13_5, o13_6, o14_0, o14_1, o14_2, o14_3, o14_4, o14_5, o3_0, o3_1, o3_2, o3_3, o3_4, o11_0, o11_1, o11_2, o11_3, o4_0, o4_1, o4_2, o4_3, o4_4, o4_5, o4_6, o5_0, o5_1, o5_2, o5_3, o5_4, o5_5, n5, o5s_0, o5s_1, o5s_2, o5s_3, o5s_4, o5s_5, o17_0, o17_1, o19_0, o19_1, o20_0, o20_1, o20_2, o21_0, o21_1, o21_2, o21_3, cw]
  have := lp (L (to + 7)).toNat 0 (Int.le_refl _) (by omega)
  unfold fndS rowOf
  rw [decide_eq_true r2, Bool.true_and]
  rw [Y18001 H rfl (jrecv_in m (by rcases htg with rfl | rfl <;> rfl)), F18001_0]
  simp (disch := first | assumption | omega | decide | exact okF_i | exact okF_r | exact okF_n | exact okF_j | rfl) only [jc_ref, rI_int, rR_ref, rR_null, rJ_long, ckR_ref, ckR_null, ckr_ref, ckr_null, ckW_int, ckW_ref, ckW_null, cI_ok, cR_ok, cR_null, cV_ok, cJ_ok, qH_eq, qD_in, aG_ref, aS_ref, aL_ref, pF_ref, cK_ref, cK_null, zI_lit, zJ_lit, zI_add, zI_sub, zI_mul, zI_neg, zI_eq, zI_lt, zI_le, Int.reduceLT, Int.reduceLE, Int.reduceAdd, Int.reduceSub, Int.reduceMul, Int.reduceNeg, Int.reduceEq, Int.reduceNe, reduceIte, jf_in, pFc_in, aGi, aGb, aSi, aLc_in, cKc_in, nA_in, jm_s1, jm_s2, jm_p1, jm_p2, jm_b, jn_b, jn_s, jn_p, jset_jset, jset_jpush2, ckR_is, ckr_is, rR_is, ckW_is, cR_is, obi2, ckW_int, eq_self, if_true, ref_null, if_false, ne_eq, not_true_eq_false, not_false_eq_true, decide_true, decide_false, decide_not, Bool.true_and, Bool.false_and, Bool.and_true, Bool.and_false, Bool.true_or, Bool.false_or, Bool.or_true, Bool.or_false, Bool.not_true, Bool.not_false, Bool.false_eq_true, bI_t, bI_f, Int.natCast_one, Int.cast_ofNat_Int, Int.natCast_zero, o23_0, o23_1, o23_2, o12_0, o12_1, o13_0, o13_1, o13_2, o13_3, o13_4, o13_5, o13_6, o14_0, o14_1, o14_2, o14_3, o14_4, o14_5, o3_0, o3_1, o3_2, o3_3, o3_4, o11_0, o11_1, o11_2, o11_3, o4_0, o4_1, o4_2, o4_3, o4_4, o4_5, o4_6, o5_0, o5_1, o5_2, o5_3, o5_4, o5_5, n5, o5s_0, o5s_1, o5s_2, o5s_3, o5s_4, o5s_5, o17_0, o17_1, o19_0, o19_1, o20_0, o20_1, o20_2, o21_0, o21_1, o21_2, o21_3, m1', m, jf_in ht, fc0]
  by_cases e1 : S (249 + r) = L (to + 1)
  · rw [if_pos e1, decide_eq_true e1, Bool.true_and]
    exact this
  · rw [if_neg e1, decide_eq_false e1, Bool.false_and]
    rfl
/-- the rows that a statement finds -/
def fndL (S L : Int → Int) (to : Int) (s : List Int) : List Int := s.filter (fun r => fndS S L to r)
/-- what a statement that finds rows is made of -/
def FndF (F : Nat → Option Cl) (b we : Nat) (S L : Int → Int) (to : Int) : Prop := (∃ (tg sz : Nat) (fc : Nat → Value), (tg = 19 ∨ tg = 21) ∧ F b = some (tg, sz, fc) ∧ fc 0 = .int (zI (L (to + 1))) ∧ fc 1 = .ref we) ∧ LstF F we (L (to + 7)) (fun k wb => F wb = some (20, 3, o20 (L (to + 8 + 3 * k)) (L (to + 8 + 3 * k + 1)) (L (to + 8 + 3 * k + 2)))) ∧ (0 ≤ L (to + 1) ∧ L (to + 1) < 4) ∧ CnW S L to
theorem fnd_al {s : List Int} (hs : ∀ x ∈ s, AlS S x) : ∀ x ∈ fndL S L to s, AlS S x := fun x hx => hs x (List.mem_filter.mp hx).1
theorem fo_loop (hB : FndF F b we S L to) (hqd : F qd = none ∧ ¬ StP a qd ∧ ¬ PlP p qd) : ∀ (s : List Int) (n : Nat) (H : AH) (cap : Nat) (Q : List Int), PlW F H q a p S nm ra wl g w sp → DqH H qd cap ra Q → qd < H.1 → (alv S 150 99 0).drop n = s → n ≤ (alv S 150 99 0).length → Q.length ≤ n →
    ∃ (H2 : AH) (cap2 : Nat), G2 (d + 4) 18000 10 [.ref b, .ref a, .ref qd, .int (zI n)] [] H = some (.inl (some (.ref qd)), H2) ∧ PlW F H2 q a p S nm ra wl g w sp ∧ DqH H2 qd cap2 ra (Q ++ fndL S L to s) ∧ Fr H H2 (fun z => z = qd) ∧ H2.1 + dqP cap2 = H.1 + dqP cap ∧ H2.2.1 + dqS cap2 = H.2.1 + dqS cap := by
  obtain ⟨⟨tg, sz, fc, htg, hb, fc0, fc1⟩, hW, ⟨t0, t1⟩, C⟩ := hB
  intro s
  induction s with
  | nil =>
    intro n H cap Q h hD lq hn hnl hQ
    have W := h.2.2.1
    have hle := alv_le W
    obtain ⟨ins, on, v1, v2, v3, mc, l, s0, s1, s2⟩ := h.rows
    have hl := rows_len s2
    have hsz := h_size (d := d + 3) s1
    have hnn : n = (alv S 150 99 0).length := by
      have := congrArg List.length hn
      simp at this
      omega
    refine ⟨H, cap, ?_, h, by unfold fndL; rw [List.filter_nil, List.append_nil]; exact hD, Fr.rf, rfl, rfl⟩
    rw [F18000_10]
    simp (disch := first | assumption | omega | decide | exact okF_i | exact okF_r | exact okF_n | exact okF_j | rfl) only [jc_ref, rI_int, rR_ref, rR_null, rJ_long, ckR_ref, ckR_null, ckr_ref, ckr_null, ckW_int, ckW_ref, ckW_null, cI_ok, cR_ok, cR_null, cV_ok, cJ_ok, qH_eq, qD_in, aG_ref, aS_ref, aL_ref, pF_ref, cK_ref, cK_null, zI_lit, zJ_lit, zI_add, zI_sub, zI_mul, zI_neg, zI_eq, zI_lt, zI_le, Int.reduceLT, Int.reduceLE, Int.reduceAdd, Int.reduceSub, Int.reduceMul, Int.reduceNeg, Int.reduceEq, Int.reduceNe, reduceIte, jf_in, pFc_in, aGi, aGb, aSi, aLc_in, cKc_in, nA_in, jm_s1, jm_s2, jm_p1, jm_p2, jm_b, jn_b, jn_s, jn_p, jset_jset, jset_jpush2, ckR_is, ckr_is, rR_is, ckW_is, cR_is, obi2, ckW_int, eq_self, if_true, ref_null, if_false, ne_eq, not_true_eq_false, not_false_eq_true, decide_true, decide_false, decide_not, Bool.true_and, Bool.false_and, Bool.and_true, Bool.and_false, Bool.true_or, Bool.false_or, Bool.or_true, Bool.or_false, Bool.not_true, Bool.not_false, Bool.false_eq_true, bI_t, bI_f, Int.natCast_one, Int.cast_ofNat_Int, Int.natCast_zero, o23_0, o23_1, o23_2, o12_0, o12_1, o13_0, o13_1, o13_2, o13_3, o13_4, o13_5, o13_6, o14_0, o14_1, o14_2, o14_3, o14_4, o14_5, o3_0, o3_1, o3_2, o3_3, o3_4, o11_0, o11_1, o11_2, o11_3, o4_0, o4_1, o4_2, o4_3, o4_4, o4_5, o4_6, o5_0, o5_1, o5_2, o5_3, o5_4, o5_5, n5, o5s_0, o5s_1, o5s_2, o5s_3, o5s_4, o5s_5, o17_0, o17_1, o19_0, o19_1, o20_0, o20_1, o20_2, o21_0, o21_1, o21_2, o21_3, s0, hsz]
    rw [if_pos (by omega)]
  | cons r s ih =>
    intro n H cap Q h hD lq hn hnl hQ
    have W := h.2.2.1
    have hF := h.1
    have hle := alv_le W
    obtain ⟨ins, on, v1, v2, v3, mc, l, s0, s1, s2⟩ := h.rows
    have hl := rows_len s2
    have hsz := h_size (d := d + 3) s1
    obtain ⟨e1, e2, e3, e4, r0, r1, r2⟩ := rows_at s2 rfl hn
    have hgr := h_get (d := d + 3) (i := n) s1 (by omega) (by omega) (by omega) (by omega)
    rw [Int.toNat_natCast, e1] at hgr
    have im := c_isMeant (d := d + 1) W hF e2 r0 r1 r2 htg (hF.m hb) fc0 fc1 hW t0 t1 C
    obtain ⟨re, rg, m1, m2, m3⟩ := e2
    have m1' := hF.m m1
    have c1 : ((n + 1 : Nat) : Int) = (n : Int) + 1 := by omega
    have e : fndL S L to (r :: s) = if fndS S L to r = true then r :: fndL S L to s else fndL S L to s := List.filter_cons
    rw [e]
    by_cases c : fndS S L to r = true
    · rw [if_pos c]
      rw [c] at im
      obtain ⟨H1, cap2, d1, d2, d3, d4, d5⟩ := dq_add (r := r) hD (Or.inr ⟨_, _, rfl, m1', by show 23 < 1000; omega⟩) (by omega)
      have h1 : PlW F H1 q a p S nm ra wl g w sp := h.ot d3 fun z hz => by rw [hz]; exact hqd
      obtain ⟨H2, cap3, i1, i2, i3, i4, i5, i6⟩ := ih (n + 1) H1 cap2 (Q ++ [r]) h1 d2 (Nat.lt_of_lt_of_le lq d3.1) e3 (by omega) (by rw [List.length_append]; simp only [List.length_singleton]; omega)
      rw [List.append_assoc] at i3
      refine ⟨H2, cap3, ?_, i2, i3, d3.tr i4, by omega, by omega⟩
      rw [← i1, c1]
      conv => lhs; rw [F18000_10]
      simp (disch := first | assumption | omega | decide | exact okF_i | exact okF_r | exact okF_n | exact okF_j | rfl) only [jc_ref, rI_int, rR_ref, rR_null, rJ_long, ckR_ref, ckR_null, ckr_ref, ckr_null, ckW_int, ckW_ref, ckW_null, cI_ok, cR_ok, cR_null, cV_ok, cJ_ok, qH_eq, qD_in, aG_ref, aS_ref, aL_ref, pF_ref, cK_ref, cK_null, zI_lit, zJ_lit, zI_add, zI_sub, zI_mul, zI_neg, zI_eq, zI_lt, zI_le, Int.reduceLT, Int.reduceLE, Int.reduceAdd, Int.reduceSub, Int.reduceMul, Int.reduceNeg, Int.reduceEq, Int.reduceNe, reduceIte, jf_in, pFc_in, aGi, aGb, aSi, aLc_in, cKc_in, nA_in, jm_s1, jm_s2, jm_p1, jm_p2, jm_b, jn_b, jn_s, jn_p, jset_jset, jset_jpush2, ckR_is, ckr_is, rR_is, ckW_is, cR_is, obi2, ckW_int, eq_self, if_true, ref_null, if_false, ne_eq, not_true_eq_false, not_false_eq_true, decide_true, decide_false, decide_not, Bool.true_and, Bool.false_and, Bool.and_true, Bool.and_false, Bool.true_or, Bool.false_or, Bool.or_true, Bool.or_false, Bool.not_true, Bool.not_false, Bool.false_eq_true, bI_t, bI_f, Int.natCast_one, Int.cast_ofNat_Int, Int.natCast_zero, o23_0, o23_1, o23_2, o12_0, o12_1, o13_0, o13_1, o13_2, o13_3, o13_4, o13_5, o13_6, o14_0, o14_1, o14_2, o14_3, o14_4, o14_5, o3_0, o3_1, o3_2, o3_3, o3_4, o11_0, o11_1, o11_2, o11_3, o4_0, o4_1, o4_2, o4_3, o4_4, o4_5, o4_6, o5_0, o5_1, o5_2, o5_3, o5_4, o5_5, n5, o5s_0, o5s_1, o5s_2, o5s_3, o5s_4, o5s_5, o17_0, o17_1, o19_0, o19_1, o20_0, o20_1, o20_2, o21_0, o21_1, o21_2, o21_3, s0, hsz, hgr, m1', im, d1]
      rw [if_neg (by omega)]
    · rw [if_neg c]
      rw [Bool.eq_false_iff.mpr c] at im
      obtain ⟨H2, cap3, i1, i2⟩ := ih (n + 1) H cap Q h hD lq e3 (by omega) (by omega)
      refine ⟨H2, cap3, ?_, i2⟩
      rw [← i1, c1]
      conv => lhs; rw [F18000_10]
      simp (disch := first | assumption | omega | decide | exact okF_i | exact okF_r | exact okF_n | exact okF_j | rfl) only [jc_ref, rI_int, rR_ref, rR_null, rJ_long, ckR_ref, ckR_null, ckr_ref, ckr_null, ckW_int, ckW_ref, ckW_null, cI_ok, cR_ok, cR_null, cV_ok, cJ_ok, qH_eq, qD_in, aG_ref, aS_ref, aL_ref, pF_ref, cK_ref, cK_null, zI_lit, zJ_lit, zI_add, zI_sub, zI_mul, zI_neg, zI_eq, zI_lt, zI_le, Int.reduceLT, Int.reduceLE, Int.reduceAdd, Int.reduceSub, Int.reduceMul, Int.reduceNeg, Int.reduceEq, Int.reduceNe, reduceIte, jf_in, pFc_in, aGi, aGb, aSi, aLc_in, cKc_in, nA_in, jm_s1, jm_s2, jm_p1, jm_p2, jm_b, jn_b, jn_s, jn_p, jset_jset, jset_jpush2, ckR_is, ckr_is, rR_is, ckW_is, cR_is, obi2, ckW_int, eq_self, if_true, ref_null, if_false, ne_eq, not_true_eq_false, not_false_eq_true, decide_true, decide_false, decide_not, Bool.true_and, Bool.false_and, Bool.and_true, Bool.and_false, Bool.true_or, Bool.false_or, Bool.or_true, Bool.or_false, Bool.not_true, Bool.not_false, Bool.false_eq_true, bI_t, bI_f, Int.natCast_one, Int.cast_ofNat_Int, Int.natCast_zero, o23_0, o23_1, o23_2, o12_0, o12_1, o13_0, o13_1, o13_2, o13_3, o13_4, o13_5, o13_6, o14_0, o14_1, o14_2, o14_3, o14_4, o14_5, o3_0, o3_1, o3_2, o3_3, o3_4, o11_0, o11_1, o11_2, o11_3, o4_0, o4_1, o4_2, o4_3, o4_4, o4_5, o4_6, o5_0, o5_1, o5_2, o5_3, o5_4, o5_5, n5, o5s_0, o5s_1, o5s_2, o5s_3, o5s_4, o5s_5, o17_0, o17_1, o19_0, o19_1, o20_0, o20_1, o20_2, o21_0, o21_1, o21_2, o21_3, s0, hsz, hgr, m1', im]
      rw [if_neg (by omega)]
theorem c_found (hB : FndF F b we S L to) (h : PlW F H q a p S nm ra wl g w sp) :
    ∃ (H2 : AH) (cap2 : Nat), M2 (d + 5) 18000 [.ref b, .ref a] H = some (.inl (some (.ref H.1)), H2) ∧ PlW F H2 q a p S nm ra wl g w sp ∧ DqH H2 H.1 cap2 ra (fndL S L to (alv S 150 99 0)) ∧ Fr H H2 (fun _ => False) ∧ H.1 < H2.1 ∧ H2.1 + dqP cap2 = H.1 + 4 ∧ H2.2.1 + dqS cap2 = H.2.1 + 130 := by
  have p9 := h.2.2.2.2.1.2.2.2.2.1
  obtain ⟨ins, on, l1, l2, l3, wm, bs, ⟨s0, -, -, -, -, s9, -⟩, -⟩ := id h.2.2.2.1
  have hqd : F H.1 = none ∧ ¬ StP a H.1 ∧ ¬ PlP p H.1 := by
    refine ⟨?_, by unfold StP; omega, by unfold PlP; omega⟩
    cases hh : F H.1 with
    | none => rfl
    | some c => exact absurd (h.1.lt hh) (Nat.lt_irrefl _)
  have qn := h_qnew (d := d + 3) (H := jpush H (63, 3, jL [.null, .int (zI 0), .int (zI 0)])) (a := H.1) jm_p1
  obtain ⟨H1, hH1⟩ : ∃ H1, H1 = jset (jburn (jpush H (63, 3, jL [.null, .int (zI 0), .int (zI 0)])) 1 17) H.1 (cDQ 17 0 []) := ⟨_, rfl⟩
  rw [← hH1] at qn
  have f1 : Fr H H1 (fun _ => False) := by
    rw [hH1]
    exact Fr.push.new (Fr.burn.tr (Fr.set (Or.inr (Nat.le_refl _))))
  have h1 : PlW F H1 q a p S nm ra wl g w sp := h.ot f1 fun _ z => z.elim
  have d1 : DqH H1 H.1 17 ra [] := ⟨⟨0, by omega, by rw [hH1]; exact jm_s1⟩, Or.inl rfl, by show 0 < 17; omega⟩
  have n1 : H1.1 = H.1 + 2 := by rw [hH1]; rfl
  have n2 : H1.2.1 = H.2.1 + 20 := by rw [hH1]; rfl
  obtain ⟨H2, cap2, i1, i2, i3, i4, i5, i6⟩ := fo_loop (d := d) hB hqd (alv S 150 99 0) 0 H1 17 [] h1 d1 (by omega) rfl (Nat.zero_le _) (Nat.le_refl _)
  have e17 : dqP 17 = 2 ∧ dqS 17 = 110 := ⟨rfl, rfl⟩
  have l4 := i4.1
  refine ⟨H2, cap2, ?_, i2, i3, f1.new (i4.mono fun z _ hz => Or.inr (by rw [hz]; exact Nat.le_refl _)), by omega, by omega, by omega⟩
  obtain ⟨⟨tg, sz, fc, htg, hb, -⟩, -⟩ := hB
  have hb' := h.1.m hb
  rw [Y18000 H rfl (jrecv_in hb' (by rcases htg with rfl | rfl <;> rfl)), F18000_0]
  simp (disch := first | assumption | omega | decide | exact okF_i | exact okF_r | exact okF_n | exact okF_j | rfl) only [jc_ref, rI_int, rR_ref, rR_null, rJ_long, ckR_ref, ckR_null, ckr_ref, ckr_null, ckW_int, ckW_ref, ckW_null, cI_ok, cR_ok, cR_null, cV_ok, cJ_ok, qH_eq, qD_in, aG_ref, aS_ref, aL_ref, pF_ref, cK_ref, cK_null, zI_lit, zJ_lit, zI_add, zI_sub, zI_mul, zI_neg, zI_eq, zI_lt, zI_le, Int.reduceLT, Int.reduceLE, Int.reduceAdd, Int.reduceSub, Int.reduceMul, Int.reduceNeg, Int.reduceEq, Int.reduceNe, reduceIte, jf_in, pFc_in, aGi, aGb, aSi, aLc_in, cKc_in, nA_in, jm_s1, jm_s2, jm_p1, jm_p2, jm_b, jn_b, jn_s, jn_p, jset_jset, jset_jpush2, ckR_is, ckr_is, rR_is, ckW_is, cR_is, obi2, ckW_int, eq_self, if_true, ref_null, if_false, ne_eq, not_true_eq_false, not_false_eq_true, decide_true, decide_false, decide_not, Bool.true_and, Bool.false_and, Bool.and_true, Bool.and_false, Bool.true_or, Bool.false_or, Bool.or_true, Bool.or_false, Bool.not_true, Bool.not_false, Bool.false_eq_true, bI_t, bI_f, Int.natCast_one, Int.cast_ofNat_Int, Int.natCast_zero, o23_0, o23_1, o23_2, o12_0, o12_1, o13_0, o13_1, o13_2, o13_3, o13_4, o13_5, o13_6, o14_0, o14_1, o14_2, o14_3, o14_4, o14_5, o3_0, o3_1, o3_2, o3_3, o3_4, o11_0, o11_1, o11_2, o11_3, o4_0, o4_1, o4_2, o4_3, o4_4, o4_5, o4_6, o5_0, o5_1, o5_2, o5_3, o5_4, o5_5, n5, o5s_0, o5s_1, o5s_2, o5s_3, o5s_4, o5s_5, o17_0, o17_1, o19_0, o19_1, o20_0, o20_1, o20_2, o21_0, o21_1, o21_2, o21_3, qn]
  exact i1
end
