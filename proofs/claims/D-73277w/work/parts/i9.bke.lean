/-! the component's reader of books: a line, whole -/
-- jc_ref, rI_int, rR_ref, rR_null, rJ_long, ckR_ref, ckR_null, ckr_ref, ckr_null, ckW_int, ckW_ref, ckW_null, cI_ok, cR_ok, cR_null, cV_ok, cJ_ok, qH_eq, qD_in, aG_ref, aS_ref, aL_ref, pF_ref, cK_ref, cK_null, zI_lit, zJ_lit, zI_add, zI_sub, zI_mul, zI_neg, zI_eq, zI_lt, zI_le, Int.reduceLT, Int.reduceLE, Int.reduceAdd, Int.reduceSub, Int.reduceMul, Int.reduceNeg, Int.reduceEq, Int.reduceNe, reduceIte, jf_in, pFc_in, aGi, aGb, aSi, aLc_in, cKc_in, nA_in, jm_s1, jm_s2, jm_p1, jm_p2, jm_b, jn_b, jn_s, jn_p, jset_jset, jset_jpush2, ckR_is, ckr_is, rR_is, ckW_is, cR_is, obi2, ckW_int, eq_self, if_true, ref_null, if_false, ne_eq, not_true_eq_false, not_false_eq_true, decide_true, decide_false, decide_not, Bool.true_and, Bool.false_and, Bool.and_true, Bool.and_false, Bool.true_or, Bool.false_or, Bool.or_true, Bool.or_false, Bool.not_true, Bool.not_false, Bool.false_eq_true, bI_t, bI_f, Int.natCast_one, Int.cast_ofNat_Int, Int.natCast_zero, ju_self, ju_ne = jc_ref, rI_int, rR_ref, rR_null, rJ_long, ckR_ref, ckR_null, ckr_ref, ckr_null, ckW_int, ckW_ref, ckW_null, cI_ok, cR_ok, cR_null, cV_ok, cJ_ok, qH_eq, qD_in, aG_ref, aS_ref, aL_ref, pF_ref, cK_ref, cK_null, zI_lit, zJ_lit, zI_add, zI_sub, zI_mul, zI_neg, zI_eq, zI_lt, zI_le, Int.reduceLT, Int.reduceLE, Int.reduceAdd, Int.reduceSub, Int.reduceMul, Int.reduceNeg, Int.reduceEq, Int.reduceNe, reduceIte, jf_in, pFc_in, aGi, aGb, aSi, aLc_in, cKc_in, nA_in, jm_s1, jm_s2, jm_p1, jm_p2, jm_b, jn_b, jn_s, jn_p, jset_jset, jset_jpush2, ckR_is, ckr_is, rR_is, ckW_is, cR_is, obi2, ckW_int, eq_self, if_true, ref_null, if_false, ne_eq, not_true_eq_false, not_false_eq_true, decide_true, decide_false, decide_not, Bool.true_and, Bool.false_and, Bool.and_true, Bool.and_false, Bool.true_or, Bool.false_or, Bool.or_true, Bool.or_false, Bool.not_true, Bool.not_false, Bool.false_eq_true, bI_t, bI_f, Int.natCast_one, Int.cast_ofNat_Int, Int.natCast_zero, ju_self, ju_ne
section
variable {d : Nat} {H H2 : AH} {a b q n t tp sc ql cap : Nat} {z l p nn v : Int} {f : Nat → Value} {g : Int → Int} {B C : Nat → Prop} {x y : Value} {S nm L : Int → Int} {mc : Int32} {lst : List Value}
theorem CRl.wk {α : Type} {r : Except Er α} {R : Rz} {P : Nat → Prop} {c s c' s' : Nat} {K : α → Option Value → AH → Prop} {Kl : Int → Option Value → AH → Prop} (h : CRl g z l r R H P c s K Kl) (hc : c ≤ c') (hs : s ≤ s') : CRl g z l r R H P c' s' K Kl := by
  obtain ⟨H2, h1, h2, h3, h4⟩ := h
  exact ⟨H2, h1, by omega, by omega, h4⟩
theorem rb_one (h : RdC B H a 27 n tp sc g z l (.ref ql) y p) (hS : SchP C H sc S nm) (ca : C a) (W : ScW S) (hl : jm H ql = some (cAL cap mc lst)) (hn : (lst.length : Int) = nn) (n4 : nn ≤ 40) :
    CRl g z l (bkP g z l S nm L nn p) (M2 (d + 14) 27000 [.ref a] H) H (fun u => u = a) 200 1820 (BkK B a n tp sc g z l (.ref ql) y S (20 * nn) H.1) (fun q' w H2 => RdC B H2 a 27 n tp sc g z l (.ref ql) y q' ∧ ∃ b c, w = some (.ref b) ∧ jm H2 b = some c ∧ c.1 < 1000) := by
  obtain ⟨f, mm, -, -, f4, f5, -, -, -, f10, -⟩ := h.fs
  obtain ⟨mi, mq, mn, -⟩ := mvB h
  have rv : (jtRecv 27000).elem 27 = true := rfl
  obtain ⟨w1, a1, b1⟩ := rc_isE h (k := 12) (by omega) (by omega) (nmE (by decide))
  have b1' := (mi (d + 13) _).trans (b1 (d + 11))
  rw [show pk (bsL 12) = wBEG by decide] at b1'
  obtain ⟨w2, a2, b2⟩ := rc_isE h (k := 13) (by omega) (by omega) (nmE (by decide))
  have b2' := (mi (d + 13) _).trans (b2 (d + 11))
  rw [show pk (bsL 13) = wCOM by decide] at b2'
  obtain ⟨w3, a3, b3⟩ := rc_isE h (k := 14) (by omega) (by omega) (nmE (by decide))
  have b3' := (mi (d + 13) _).trans (b3 (d + 11))
  rw [show pk (bsL 14) = wBAK by decide] at b3'
  rw [Y27000 H (jrecv_in mm rv), F27000_0]
  unfold bkP
  have mk := fun v (v0 : 0 ≤ v) (v2 : v ≤ 2) => ((rb_mark (d := d) (S := S) (L := L) h hl hn n4 v0 v2).li (g := g) (z := z) (l := l) (Kl := fun q' w H2 => RdC B H2 a 27 n tp sc g z l (.ref ql) y q' ∧ ∃ b c, w = some (.ref b) ∧ jm H2 b = some c ∧ c.1 < 1000)).wk (c' := 200) (s' := 1820) (by omega) (by omega)
  cases e1 : isW g z l p wBEG with
  | true =>
    rw [e1, bZ_t] at b1'
    rw [if_pos rfl]
    rw [show (zpR (je H 12) _ _ : Rz) = G2 (d + 13) 27000 54 [.ref a, .int (zI 0)] [.ref a] H by simp (disch := first | assumption | omega | decide | exact okF_i | exact okF_r | exact okF_n | exact okF_j | rfl) only [jc_ref, rI_int, rR_ref, rR_null, rJ_long, ckR_ref, ckR_null, ckr_ref, ckr_null, ckW_int, ckW_ref, ckW_null, cI_ok, cR_ok, cR_null, cV_ok, cJ_ok, qH_eq, qD_in, aG_ref, aS_ref, aL_ref, pF_ref, cK_ref, cK_null, zI_lit, zJ_lit, zI_add, zI_sub, zI_mul, zI_neg, zI_eq, zI_lt, zI_le, Int.reduceLT, Int.reduceLE, Int.reduceAdd, Int.reduceSub, Int.reduceMul, Int.reduceNeg, Int.reduceEq, Int.reduceNe, reduceIte, jf_in, pFc_in, aGi, aGb, aSi, aLc_in, cKc_in, nA_in, jm_s1, jm_s2, jm_p1, jm_p2, jm_b, jn_b, jn_s, jn_p, jset_jset, jset_jpush2, ckR_is, ckr_is, rR_is, ckW_is, cR_is, obi2, ckW_int, eq_self, if_true, ref_null, if_false, ne_eq, not_true_eq_false, not_false_eq_true, decide_true, decide_false, decide_not, Bool.true_and, Bool.false_and, Bool.and_true, Bool.and_false, Bool.true_or, Bool.false_or, Bool.or_true, Bool.or_false, Bool.not_true, Bool.not_false, Bool.false_eq_true, bI_t, bI_f, Int.natCast_one, Int.cast_ofNat_Int, Int.natCast_zero, ju_self, ju_ne, a1, b1', F27000_40]]
    exact mk 0 (by omega) (by omega)
  | false =>
  rw [e1, bZ_f] at b1'
  rw [if_neg (by decide)]
  cases e2 : isW g z l p wCOM with
  | true =>
    rw [e2, bZ_t] at b2'
    rw [if_pos rfl]
    rw [show (zpR (je H 12) _ _ : Rz) = G2 (d + 13) 27000 54 [.ref a, .int (zI 1)] [.ref a] H by simp (disch := first | assumption | omega | decide | exact okF_i | exact okF_r | exact okF_n | exact okF_j | rfl) only [jc_ref, rI_int, rR_ref, rR_null, rJ_long, ckR_ref, ckR_null, ckr_ref, ckr_null, ckW_int, ckW_ref, ckW_null, cI_ok, cR_ok, cR_null, cV_ok, cJ_ok, qH_eq, qD_in, aG_ref, aS_ref, aL_ref, pF_ref, cK_ref, cK_null, zI_lit, zJ_lit, zI_add, zI_sub, zI_mul, zI_neg, zI_eq, zI_lt, zI_le, Int.reduceLT, Int.reduceLE, Int.reduceAdd, Int.reduceSub, Int.reduceMul, Int.reduceNeg, Int.reduceEq, Int.reduceNe, reduceIte, jf_in, pFc_in, aGi, aGb, aSi, aLc_in, cKc_in, nA_in, jm_s1, jm_s2, jm_p1, jm_p2, jm_b, jn_b, jn_s, jn_p, jset_jset, jset_jpush2, ckR_is, ckr_is, rR_is, ckW_is, cR_is, obi2, ckW_int, eq_self, if_true, ref_null, if_false, ne_eq, not_true_eq_false, not_false_eq_true, decide_true, decide_false, decide_not, Bool.true_and, Bool.false_and, Bool.and_true, Bool.and_false, Bool.true_or, Bool.false_or, Bool.or_true, Bool.or_false, Bool.not_true, Bool.not_false, Bool.false_eq_true, bI_t, bI_f, Int.natCast_one, Int.cast_ofNat_Int, Int.natCast_zero, ju_self, ju_ne, a1, b1', a2, b2', F27000_40]]
    exact mk 1 (by omega) (by omega)
  | false =>
  rw [e2, bZ_f] at b2'
  rw [if_neg (by decide)]
  cases e3 : isW g z l p wBAK with
  | true =>
    rw [e3, bZ_t] at b3'
    rw [if_pos rfl]
    rw [show (zpR (je H 12) _ _ : Rz) = G2 (d + 13) 27000 54 [.ref a, .int (zI 2)] [.ref a] H by simp (disch := first | assumption | omega | decide | exact okF_i | exact okF_r | exact okF_n | exact okF_j | rfl) only [jc_ref, rI_int, rR_ref, rR_null, rJ_long, ckR_ref, ckR_null, ckr_ref, ckr_null, ckW_int, ckW_ref, ckW_null, cI_ok, cR_ok, cR_null, cV_ok, cJ_ok, qH_eq, qD_in, aG_ref, aS_ref, aL_ref, pF_ref, cK_ref, cK_null, zI_lit, zJ_lit, zI_add, zI_sub, zI_mul, zI_neg, zI_eq, zI_lt, zI_le, Int.reduceLT, Int.reduceLE, Int.reduceAdd, Int.reduceSub, Int.reduceMul, Int.reduceNeg, Int.reduceEq, Int.reduceNe, reduceIte, jf_in, pFc_in, aGi, aGb, aSi, aLc_in, cKc_in, nA_in, jm_s1, jm_s2, jm_p1, jm_p2, jm_b, jn_b, jn_s, jn_p, jset_jset, jset_jpush2, ckR_is, ckr_is, rR_is, ckW_is, cR_is, obi2, ckW_int, eq_self, if_true, ref_null, if_false, ne_eq, not_true_eq_false, not_false_eq_true, decide_true, decide_false, decide_not, Bool.true_and, Bool.false_and, Bool.and_true, Bool.and_false, Bool.true_or, Bool.false_or, Bool.or_true, Bool.or_false, Bool.not_true, Bool.not_false, Bool.false_eq_true, bI_t, bI_f, Int.natCast_one, Int.cast_ofNat_Int, Int.natCast_zero, ju_self, ju_ne, a1, b1', a2, b2', a3, b3', F27000_40]]
    exact mk 2 (by omega) (by omega)
  | false =>
  rw [e3, bZ_f] at b3'
  rw [if_neg (by decide)]
  have is := (mq (d + 13)).trans (rc_isStm (d := d + 9) h)
  by_cases hs : isW g z l p wINSERT = true ∨ isW g z l p wDELETE = true ∨ isW g z l p wSET = true
  · have eb1 : (isW g z l p wINSERT || isW g z l p wDELETE || isW g z l p wSET) = true := by
      rcases hs with e | e | e <;> simp [e]
    rw [eb1, bZ_t] at is
    rw [if_pos hs]
    rw [show (zpR (je H 12) _ _ : Rz) = G2 (d + 13) 27000 54 [.ref a, .int (zI (-1))] [.ref a] H by simp (disch := first | assumption | omega | decide | exact okF_i | exact okF_r | exact okF_n | exact okF_j | rfl) only [jc_ref, rI_int, rR_ref, rR_null, rJ_long, ckR_ref, ckR_null, ckr_ref, ckr_null, ckW_int, ckW_ref, ckW_null, cI_ok, cR_ok, cR_null, cV_ok, cJ_ok, qH_eq, qD_in, aG_ref, aS_ref, aL_ref, pF_ref, cK_ref, cK_null, zI_lit, zJ_lit, zI_add, zI_sub, zI_mul, zI_neg, zI_eq, zI_lt, zI_le, Int.reduceLT, Int.reduceLE, Int.reduceAdd, Int.reduceSub, Int.reduceMul, Int.reduceNeg, Int.reduceEq, Int.reduceNe, reduceIte, jf_in, pFc_in, aGi, aGb, aSi, aLc_in, cKc_in, nA_in, jm_s1, jm_s2, jm_p1, jm_p2, jm_b, jn_b, jn_s, jn_p, jset_jset, jset_jpush2, ckR_is, ckr_is, rR_is, ckW_is, cR_is, obi2, ckW_int, eq_self, if_true, ref_null, if_false, ne_eq, not_true_eq_false, not_false_eq_true, decide_true, decide_false, decide_not, Bool.true_and, Bool.false_and, Bool.and_true, Bool.and_false, Bool.true_or, Bool.false_or, Bool.or_true, Bool.or_false, Bool.not_true, Bool.not_false, Bool.false_eq_true, bI_t, bI_f, Int.natCast_one, Int.cast_ofNat_Int, Int.natCast_zero, ju_self, ju_ne, a1, b1', a2, b2', a3, b3', F27000_40, is]]
    exact rb_stm h hS ca W hl hn n4 hs
  · have x1 : isW g z l p wINSERT = false := Bool.eq_false_iff.mpr fun e => hs (Or.inl e)
    have x2 : isW g z l p wDELETE = false := Bool.eq_false_iff.mpr fun e => hs (Or.inr (Or.inl e))
    have x3 : isW g z l p wSET = false := Bool.eq_false_iff.mpr fun e => hs (Or.inr (Or.inr e))
    rw [x1, x2, x3] at is
    rw [show (false || false || false) = false from rfl, bZ_f] at is
    rw [if_neg hs]
    have nd := rc_need (d := d + 8) h (b := false) (k := 1) (by omega) (by omega)
    rw [if_neg (by decide), bZ_f] at nd
    obtain ⟨H2, r1, r2, r3, r4, r5⟩ := nd
    have r1' := (mn (d + 13) _ _).trans r1
    refine ⟨H2, r2.mono fun _ _ u => u.elim, by omega, by omega, Or.inl ⟨H.1, ?_, r5⟩⟩
    simp (disch := first | assumption | omega | decide | exact okF_i | exact okF_r | exact okF_n | exact okF_j | rfl) only [jc_ref, rI_int, rR_ref, rR_null, rJ_long, ckR_ref, ckR_null, ckr_ref, ckr_null, ckW_int, ckW_ref, ckW_null, cI_ok, cR_ok, cR_null, cV_ok, cJ_ok, qH_eq, qD_in, aG_ref, aS_ref, aL_ref, pF_ref, cK_ref, cK_null, zI_lit, zJ_lit, zI_add, zI_sub, zI_mul, zI_neg, zI_eq, zI_lt, zI_le, Int.reduceLT, Int.reduceLE, Int.reduceAdd, Int.reduceSub, Int.reduceMul, Int.reduceNeg, Int.reduceEq, Int.reduceNe, reduceIte, jf_in, pFc_in, aGi, aGb, aSi, aLc_in, cKc_in, nA_in, jm_s1, jm_s2, jm_p1, jm_p2, jm_b, jn_b, jn_s, jn_p, jset_jset, jset_jpush2, ckR_is, ckr_is, rR_is, ckW_is, cR_is, obi2, ckW_int, eq_self, if_true, ref_null, if_false, ne_eq, not_true_eq_false, not_false_eq_true, decide_true, decide_false, decide_not, Bool.true_and, Bool.false_and, Bool.and_true, Bool.and_false, Bool.true_or, Bool.false_or, Bool.or_true, Bool.or_false, Bool.not_true, Bool.not_false, Bool.false_eq_true, bI_t, bI_f, Int.natCast_one, Int.cast_ofNat_Int, Int.natCast_zero, ju_self, ju_ne, a1, b1', a2, b2', a3, b3', F27000_40, is, r1', cV_th]
end
