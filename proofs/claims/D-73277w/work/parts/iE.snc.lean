/-! the component's reader of sentences: an operand's front, what is faulty at it -/
-- jc_ref, rI_int, rR_ref, rR_null, rJ_long, ckR_ref, ckR_null, ckr_ref, ckr_null, ckW_int, ckW_ref, ckW_null, cI_ok, cR_ok, cR_null, cV_ok, cJ_ok, qH_eq, qD_in, aG_ref, aS_ref, aL_ref, pF_ref, cK_ref, cK_null, zI_lit, zJ_lit, zI_add, zI_sub, zI_mul, zI_neg, zI_eq, zI_lt, zI_le, Int.reduceLT, Int.reduceLE, Int.reduceAdd, Int.reduceSub, Int.reduceMul, Int.reduceNeg, Int.reduceEq, Int.reduceNe, reduceIte, jf_in, pFc_in, aGi, aGb, aSi, aLc_in, cKc_in, nA_in, jm_s1, jm_s2, jm_p1, jm_p2, jm_b, jn_b, jn_s, jn_p, jset_jset, jset_jpush2, ckR_is, ckr_is, rR_is, ckW_is, cR_is, obi2, ckW_int, eq_self, if_true, ref_null, if_false, ne_eq, not_true_eq_false, not_false_eq_true, decide_true, decide_false, decide_not, Bool.true_and, Bool.false_and, Bool.and_true, Bool.and_false, Bool.true_or, Bool.false_or, Bool.or_true, Bool.or_false, Bool.not_true, Bool.not_false, Bool.false_eq_true, bI_t, bI_f, Int.natCast_one, Int.cast_ofNat_Int, Int.natCast_zero, ju_self, ju_ne = jc_ref, rI_int, rR_ref, rR_null, rJ_long, ckR_ref, ckR_null, ckr_ref, ckr_null, ckW_int, ckW_ref, ckW_null, cI_ok, cR_ok, cR_null, cV_ok, cJ_ok, qH_eq, qD_in, aG_ref, aS_ref, aL_ref, pF_ref, cK_ref, cK_null, zI_lit, zJ_lit, zI_add, zI_sub, zI_mul, zI_neg, zI_eq, zI_lt, zI_le, Int.reduceLT, Int.reduceLE, Int.reduceAdd, Int.reduceSub, Int.reduceMul, Int.reduceNeg, Int.reduceEq, Int.reduceNe, reduceIte, jf_in, pFc_in, aGi, aGb, aSi, aLc_in, cKc_in, nA_in, jm_s1, jm_s2, jm_p1, jm_p2, jm_b, jn_b, jn_s, jn_p, jset_jset, jset_jpush2, ckR_is, ckr_is, rR_is, ckW_is, cR_is, obi2, ckW_int, eq_self, if_true, ref_null, if_false, ne_eq, not_true_eq_false, not_false_eq_true, decide_true, decide_false, decide_not, Bool.true_and, Bool.false_and, Bool.and_true, Bool.and_false, Bool.true_or, Bool.false_or, Bool.or_true, Bool.or_false, Bool.not_true, Bool.not_false, Bool.false_eq_true, bI_t, bI_f, Int.natCast_one, Int.cast_ofNat_Int, Int.natCast_zero, ju_self, ju_ne
section
variable {d : Nat} {H H2 : AH} {a b q n t tp sc e1 e2 : Nat} {z l p v : Int} {f : Nat → Value} {g : Int → Int} {B C : Nat → Prop} {x y : Value} {S nm : Int → Int}
def whZ (g : Int → Int) (z l q : Int) : Int := if isW g z l q wBARE = true then 0 else if isW g z l q wKNOWN = true then 1 else if isW g z l q wBROKEN = true then 2 else -1
theorem isE' (h : RdC B H a 29 n tp sc g z l x y p) {k : Nat} {w : Int} (k0 : 9 ≤ k) (k1 : k < 47) (hb : NmB (bsL k)) (hw : pk (bsL k) = w) : ∃ u, je H k = .ref u ∧ MvH (d + 9) 9123 [.ref a, .ref u] H = some (.inl (some (.int (zI (bZ (isW g z l p w))))), H) := by
  obtain ⟨u, u1, u2⟩ := rc_isE h k0 k1 hb
  refine ⟨u, u1, ?_⟩
  rw [← hw]
  exact ((mvS h).1 (d + 9) _).trans (u2 (d + 7))
theorem sn_0 (h : RdC B H a 29 n tp sc g z l x y p) : G2 (d + 9) 29005 0 [.ref a, jno, jno, jno, jno, jno, jno] [] H = G2 (d + 9) 29005 71 [.ref a, .int (zI (bZ (isS g z l p 40))), .int (zI (bZ (isW g z l p wNOT))), jno, jno, jno, jno] [.int (zI (whZ g z l p))] H := by
  obtain ⟨f, mm, -, -, f4, f5, f7, -, f8, -, -, w, f9, fw⟩ := h.fs
  have e9 : ([9, 15, 27, 29] : List Nat).elem 29 = true := rfl
  obtain ⟨-, -, -, -, c4, c6⟩ := ckd_is (g := g) (z := z) (l := l) (q := p)
  have cr := ckd_rg (g := g) (z := z) (l := l) (q := p)
  have A : G2 (d + 9) 29005 0 [.ref a, jno, jno, jno, jno, jno, jno] [] H = G2 (d + 9) 29005 23 [.ref a, jno, jno, jno, jno, jno, jno] [.int (zI (bZ (isS g z l p 40)))] H := by
    rw [F29005_0]
    by_cases k6 : ckd g z l p = 6
    · obtain ⟨k3, ns⟩ := c6.mp k6
      have f8' := f8 k3
      by_cases c : nmv g z p = 40
      · rw [show isS g z l p 40 = true by simp only [isS]; exact decide_eq_true ⟨k3, c⟩, bZ_t]
        rw [k6] at f5
        rw [c] at f8'
        simp (disch := first | assumption | omega | decide | exact okF_i | exact okF_r | exact okF_n | exact okF_j | rfl) only [jc_ref, rI_int, rR_ref, rR_null, rJ_long, ckR_ref, ckR_null, ckr_ref, ckr_null, ckW_int, ckW_ref, ckW_null, cI_ok, cR_ok, cR_null, cV_ok, cJ_ok, qH_eq, qD_in, aG_ref, aS_ref, aL_ref, pF_ref, cK_ref, cK_null, zI_lit, zJ_lit, zI_add, zI_sub, zI_mul, zI_neg, zI_eq, zI_lt, zI_le, Int.reduceLT, Int.reduceLE, Int.reduceAdd, Int.reduceSub, Int.reduceMul, Int.reduceNeg, Int.reduceEq, Int.reduceNe, reduceIte, jf_in, pFc_in, aGi, aGb, aSi, aLc_in, cKc_in, nA_in, jm_s1, jm_s2, jm_p1, jm_p2, jm_b, jn_b, jn_s, jn_p, jset_jset, jset_jpush2, ckR_is, ckr_is, rR_is, ckW_is, cR_is, obi2, ckW_int, eq_self, if_true, ref_null, if_false, ne_eq, not_true_eq_false, not_false_eq_true, decide_true, decide_false, decide_not, Bool.true_and, Bool.false_and, Bool.and_true, Bool.and_false, Bool.true_or, Bool.false_or, Bool.or_true, Bool.or_false, Bool.not_true, Bool.not_false, Bool.false_eq_true, bI_t, bI_f, Int.natCast_one, Int.cast_ofNat_Int, Int.natCast_zero, ju_self, ju_ne, mm, f5, f8']
      · rw [show isS g z l p 40 = false by simp only [isS]; exact decide_eq_false fun u => c u.2, bZ_f]
        have rg := nmv_rg3 k3
        rw [k6] at f5
        simp (disch := first | assumption | omega | decide | exact okF_i | exact okF_r | exact okF_n | exact okF_j | rfl) only [jc_ref, rI_int, rR_ref, rR_null, rJ_long, ckR_ref, ckR_null, ckr_ref, ckr_null, ckW_int, ckW_ref, ckW_null, cI_ok, cR_ok, cR_null, cV_ok, cJ_ok, qH_eq, qD_in, aG_ref, aS_ref, aL_ref, pF_ref, cK_ref, cK_null, zI_lit, zJ_lit, zI_add, zI_sub, zI_mul, zI_neg, zI_eq, zI_lt, zI_le, Int.reduceLT, Int.reduceLE, Int.reduceAdd, Int.reduceSub, Int.reduceMul, Int.reduceNeg, Int.reduceEq, Int.reduceNe, reduceIte, jf_in, pFc_in, aGi, aGb, aSi, aLc_in, cKc_in, nA_in, jm_s1, jm_s2, jm_p1, jm_p2, jm_b, jn_b, jn_s, jn_p, jset_jset, jset_jpush2, ckR_is, ckr_is, rR_is, ckW_is, cR_is, obi2, ckW_int, eq_self, if_true, ref_null, if_false, ne_eq, not_true_eq_false, not_false_eq_true, decide_true, decide_false, decide_not, Bool.true_and, Bool.false_and, Bool.and_true, Bool.and_false, Bool.true_or, Bool.false_or, Bool.or_true, Bool.or_false, Bool.not_true, Bool.not_false, Bool.false_eq_true, bI_t, bI_f, Int.natCast_one, Int.cast_ofNat_Int, Int.natCast_zero, ju_self, ju_ne, mm, f5, f8', c]
    · rw [show isS g z l p 40 = false by
        simp only [isS]
        exact decide_eq_false fun u => k6 (c6.mpr ⟨u.1, by omega⟩), bZ_f]
      simp (disch := first | assumption | omega | decide | exact okF_i | exact okF_r | exact okF_n | exact okF_j | rfl) only [jc_ref, rI_int, rR_ref, rR_null, rJ_long, ckR_ref, ckR_null, ckr_ref, ckr_null, ckW_int, ckW_ref, ckW_null, cI_ok, cR_ok, cR_null, cV_ok, cJ_ok, qH_eq, qD_in, aG_ref, aS_ref, aL_ref, pF_ref, cK_ref, cK_null, zI_lit, zJ_lit, zI_add, zI_sub, zI_mul, zI_neg, zI_eq, zI_lt, zI_le, Int.reduceLT, Int.reduceLE, Int.reduceAdd, Int.reduceSub, Int.reduceMul, Int.reduceNeg, Int.reduceEq, Int.reduceNe, reduceIte, jf_in, pFc_in, aGi, aGb, aSi, aLc_in, cKc_in, nA_in, jm_s1, jm_s2, jm_p1, jm_p2, jm_b, jn_b, jn_s, jn_p, jset_jset, jset_jpush2, ckR_is, ckr_is, rR_is, ckW_is, cR_is, obi2, ckW_int, eq_self, if_true, ref_null, if_false, ne_eq, not_true_eq_false, not_false_eq_true, decide_true, decide_false, decide_not, Bool.true_and, Bool.false_and, Bool.and_true, Bool.and_false, Bool.true_or, Bool.false_or, Bool.or_true, Bool.or_false, Bool.not_true, Bool.not_false, Bool.false_eq_true, bI_t, bI_f, Int.natCast_one, Int.cast_ofNat_Int, Int.natCast_zero, ju_self, ju_ne, mm, f5, k6]
  rw [A, F29005_23]
  obtain ⟨w1, a1, b1⟩ := isE' (d := d) h (k := 39) (w := wNOT) (by omega) (by omega) (nmE (by decide)) (by decide)
  obtain ⟨w2, a2, b2⟩ := isE' (d := d) h (k := 40) (w := wBARE) (by omega) (by omega) (nmE (by decide)) (by decide)
  obtain ⟨w3, a3, b3⟩ := isE' (d := d) h (k := 41) (w := wKNOWN) (by omega) (by omega) (nmE (by decide)) (by decide)
  obtain ⟨w4, a4, b4⟩ := isE' (d := d) h (k := 42) (w := wBROKEN) (by omega) (by omega) (nmE (by decide)) (by decide)
  generalize isS g z l p 40 = s40
  generalize isW g z l p wNOT = wn at b1 ⊢
  unfold whZ
  cases q2 : isW g z l p wBARE with
  | true =>
    rw [q2, bZ_t] at b2
    simp (disch := first | assumption | omega | decide | exact okF_i | exact okF_r | exact okF_n | exact okF_j | rfl) only [jc_ref, rI_int, rR_ref, rR_null, rJ_long, ckR_ref, ckR_null, ckr_ref, ckr_null, ckW_int, ckW_ref, ckW_null, cI_ok, cR_ok, cR_null, cV_ok, cJ_ok, qH_eq, qD_in, aG_ref, aS_ref, aL_ref, pF_ref, cK_ref, cK_null, zI_lit, zJ_lit, zI_add, zI_sub, zI_mul, zI_neg, zI_eq, zI_lt, zI_le, Int.reduceLT, Int.reduceLE, Int.reduceAdd, Int.reduceSub, Int.reduceMul, Int.reduceNeg, Int.reduceEq, Int.reduceNe, reduceIte, jf_in, pFc_in, aGi, aGb, aSi, aLc_in, cKc_in, nA_in, jm_s1, jm_s2, jm_p1, jm_p2, jm_b, jn_b, jn_s, jn_p, jset_jset, jset_jpush2, ckR_is, ckr_is, rR_is, ckW_is, cR_is, obi2, ckW_int, eq_self, if_true, ref_null, if_false, ne_eq, not_true_eq_false, not_false_eq_true, decide_true, decide_false, decide_not, Bool.true_and, Bool.false_and, Bool.and_true, Bool.and_false, Bool.true_or, Bool.false_or, Bool.or_true, Bool.or_false, Bool.not_true, Bool.not_false, Bool.false_eq_true, bI_t, bI_f, Int.natCast_one, Int.cast_ofNat_Int, Int.natCast_zero, ju_self, ju_ne, a1, b1, a2, b2]
  | false =>
    rw [q2, bZ_f] at b2
    cases q3 : isW g z l p wKNOWN with
    | true =>
      rw [q3, bZ_t] at b3
      simp (disch := first | assumption | omega | decide | exact okF_i | exact okF_r | exact okF_n | exact okF_j | rfl) only [jc_ref, rI_int, rR_ref, rR_null, rJ_long, ckR_ref, ckR_null, ckr_ref, ckr_null, ckW_int, ckW_ref, ckW_null, cI_ok, cR_ok, cR_null, cV_ok, cJ_ok, qH_eq, qD_in, aG_ref, aS_ref, aL_ref, pF_ref, cK_ref, cK_null, zI_lit, zJ_lit, zI_add, zI_sub, zI_mul, zI_neg, zI_eq, zI_lt, zI_le, Int.reduceLT, Int.reduceLE, Int.reduceAdd, Int.reduceSub, Int.reduceMul, Int.reduceNeg, Int.reduceEq, Int.reduceNe, reduceIte, jf_in, pFc_in, aGi, aGb, aSi, aLc_in, cKc_in, nA_in, jm_s1, jm_s2, jm_p1, jm_p2, jm_b, jn_b, jn_s, jn_p, jset_jset, jset_jpush2, ckR_is, ckr_is, rR_is, ckW_is, cR_is, obi2, ckW_int, eq_self, if_true, ref_null, if_false, ne_eq, not_true_eq_false, not_false_eq_true, decide_true, decide_false, decide_not, Bool.true_and, Bool.false_and, Bool.and_true, Bool.and_false, Bool.true_or, Bool.false_or, Bool.or_true, Bool.or_false, Bool.not_true, Bool.not_false, Bool.false_eq_true, bI_t, bI_f, Int.natCast_one, Int.cast_ofNat_Int, Int.natCast_zero, ju_self, ju_ne, a1, b1, a2, b2, a3, b3]
    | false =>
      rw [q3, bZ_f] at b3
      cases q4 : isW g z l p wBROKEN with
      | true =>
        rw [q4, bZ_t] at b4
        simp (disch := first | assumption | omega | decide | exact okF_i | exact okF_r | exact okF_n | exact okF_j | rfl) only [jc_ref, rI_int, rR_ref, rR_null, rJ_long, ckR_ref, ckR_null, ckr_ref, ckr_null, ckW_int, ckW_ref, ckW_null, cI_ok, cR_ok, cR_null, cV_ok, cJ_ok, qH_eq, qD_in, aG_ref, aS_ref, aL_ref, pF_ref, cK_ref, cK_null, zI_lit, zJ_lit, zI_add, zI_sub, zI_mul, zI_neg, zI_eq, zI_lt, zI_le, Int.reduceLT, Int.reduceLE, Int.reduceAdd, Int.reduceSub, Int.reduceMul, Int.reduceNeg, Int.reduceEq, Int.reduceNe, reduceIte, jf_in, pFc_in, aGi, aGb, aSi, aLc_in, cKc_in, nA_in, jm_s1, jm_s2, jm_p1, jm_p2, jm_b, jn_b, jn_s, jn_p, jset_jset, jset_jpush2, ckR_is, ckr_is, rR_is, ckW_is, cR_is, obi2, ckW_int, eq_self, if_true, ref_null, if_false, ne_eq, not_true_eq_false, not_false_eq_true, decide_true, decide_false, decide_not, Bool.true_and, Bool.false_and, Bool.and_true, Bool.and_false, Bool.true_or, Bool.false_or, Bool.or_true, Bool.or_false, Bool.not_true, Bool.not_false, Bool.false_eq_true, bI_t, bI_f, Int.natCast_one, Int.cast_ofNat_Int, Int.natCast_zero, ju_self, ju_ne, a1, b1, a2, b2, a3, b3, a4, b4]
      | false =>
        rw [q4, bZ_f] at b4
        simp (disch := first | assumption | omega | decide | exact okF_i | exact okF_r | exact okF_n | exact okF_j | rfl) only [jc_ref, rI_int, rR_ref, rR_null, rJ_long, ckR_ref, ckR_null, ckr_ref, ckr_null, ckW_int, ckW_ref, ckW_null, cI_ok, cR_ok, cR_null, cV_ok, cJ_ok, qH_eq, qD_in, aG_ref, aS_ref, aL_ref, pF_ref, cK_ref, cK_null, zI_lit, zJ_lit, zI_add, zI_sub, zI_mul, zI_neg, zI_eq, zI_lt, zI_le, Int.reduceLT, Int.reduceLE, Int.reduceAdd, Int.reduceSub, Int.reduceMul, Int.reduceNeg, Int.reduceEq, Int.reduceNe, reduceIte, jf_in, pFc_in, aGi, aGb, aSi, aLc_in, cKc_in, nA_in, jm_s1, jm_s2, jm_p1, jm_p2, jm_b, jn_b, jn_s, jn_p, jset_jset, jset_jpush2, ckR_is, ckr_is, rR_is, ckW_is, cR_is, obi2, ckW_int, eq_self, if_true, ref_null, if_false, ne_eq, not_true_eq_false, not_false_eq_true, decide_true, decide_false, decide_not, Bool.true_and, Bool.false_and, Bool.and_true, Bool.and_false, Bool.true_or, Bool.false_or, Bool.or_true, Bool.or_false, Bool.not_true, Bool.not_false, Bool.false_eq_true, bI_t, bI_f, Int.natCast_one, Int.cast_ofNat_Int, Int.natCast_zero, ju_self, ju_ne, a1, b1, a2, b2, a3, b3, a4, b4]
theorem leafZ_nm (hn : isNm g z l p = true) : leafZ g z l S nm p = 100 + pkZ S nm (wdv g z p) ∧ isW g z l p wNOT = false ∧ isW g z l p wBARE = false ∧ isW g z l p wKNOWN = false ∧ isW g z l p wBROKEN = false ∧ isW g z l p wIN = false ∧ isW g z l p wROW = false ∧ isS g z l p 40 = false := by
  have a1 := isNm_no (v := wNOT) hn (by decide)
  have a2 := isNm_no (v := wBARE) hn (by decide)
  have a3 := isNm_no (v := wKNOWN) hn (by decide)
  have a4 := isNm_no (v := wBROKEN) hn (by decide)
  have a5 := isNm_no (v := wIN) hn (by decide)
  have a6 := isNm_no (v := wROW) hn (by decide)
  refine ⟨?_, a1, a2, a3, a4, a5, a6, isS_kd (isNm_k hn)⟩
  unfold leafZ
  rw [a2, a3, a4, a5, a6, hn]
  rfl
theorem leafZ_lt (hn : isNm g z l p = false) : leafZ g z l S nm p < 100 := by
  unfold leafZ
  rw [hn]
  split
  · omega
  · split
    · omega
    · split
      · omega
      · split
        · omega
        · split
          · omega
          · rw [if_neg (by decide)]; omega
set_option maxRecDepth 8000 in
theorem sn_front (h : RdC B H a 29 n tp sc g z l x y p) (hS : SchP C H sc S nm) (W : ScW S) :
    ((isW g z l p wNOT = false ∧ isS g z l p 40 = false ∧ leafZ g z l S nm p < 0) ∧ ∃ H1 u, G2 (d + 9) 29005 0 [.ref a, jno, jno, jno, jno, jno, jno] [] H = some (.inr u, H1) ∧ FaF H1 u (erx g z l p 1) ∧ Fr H H1 (fun _ => False) ∧ H1.1 ≤ H.1 + 10 ∧ H1.2.1 ≤ H.2.1 + 82) ∨
    (¬ (isW g z l p wNOT = false ∧ isS g z l p 40 = false ∧ leafZ g z l S nm p < 0) ∧ leafZ g z l S nm p = 100 ∧ ∃ H1 u, G2 (d + 9) 29005 0 [.ref a, jno, jno, jno, jno, jno, jno] [] H = some (.inr u, H1) ∧ FaF H1 u (erx g z l p 3) ∧ Fr H H1 (fun _ => False) ∧ H1.1 ≤ H.1 + 10 ∧ H1.2.1 ≤ H.2.1 + 82) ∨
    (¬ (isW g z l p wNOT = false ∧ isS g z l p 40 = false ∧ leafZ g z l S nm p < 0) ∧ ¬ leafZ g z l S nm p = 100 ∧ ∃ H1, G2 (d + 9) 29005 0 [.ref a, jno, jno, jno, jno, jno, jno] [] H = G2 (d + 9) 29005 140 [.ref a, .int (zI (bZ (isS g z l p 40))), .int (zI (bZ (isW g z l p wNOT))), .int (zI (whZ g z l p)), .int (zI (bZ (isW g z l p wIN))), jno, jno] [] H1 ∧ Fr H H1 (fun _ => False) ∧ H1.1 ≤ H.1 + 10 ∧ H1.2.1 ≤ H.2.1 + 82) := by
  obtain ⟨-, -, mn, mN, -⟩ := mvS h
  obtain ⟨w5, a5, b5⟩ := isE' (d := d) h (k := 43) (w := wIN) (by omega) (by omega) (nmE (by decide)) (by decide)
  obtain ⟨w6, a6, b6⟩ := isE' (d := d) h (k := 44) (w := wROW) (by omega) (by omega) (nmE (by decide)) (by decide)
  have nd := fun b => rc_need (d := d + 4) h (b := b) (k := 1) (by omega) (by omega)
  have ndt := nd true
  rw [if_pos rfl, bZ_t] at ndt
  have ndt' := (mn (d + 9) _ _).trans ndt
  obtain ⟨H1, g1, g2, g3, g4⟩ := rc_isName (d := d + 4) h
  have g1' := (mN (d + 9)).trans g1
  have st := (sn_0 (d := d) h).trans (F29005_71 (d + 9) a _ _ _ H)
  cases hn : isNm g z l p with
  | true =>
    rw [hn, bZ_t] at g1'
    obtain ⟨e0, e1, e2, e3, e4, e5, e6, e7⟩ := leafZ_nm (S := S) (nm := nm) hn
    have k1 := h.no g2
    have S1 := hS.fr g2 fun _ z => z.elim
    obtain ⟨-, -, mn1, mN1, -⟩ := mvS k1
    have ndt1 := rc_need (d := d + 4) k1 (b := true) (k := 1) (by omega) (by omega)
    rw [if_pos rfl, bZ_t] at ndt1
    have ndt1' := (mn1 (d + 9) _ _).trans ndt1
    obtain ⟨H2, i1, i2, i3, i4⟩ := rc_isName (d := d + 4) k1
    rw [hn, bZ_t] at i1
    have i1' := (mN1 (d + 9)).trans i1
    have k2 := k1.no i2
    have S2 := S1.fr i2 fun _ z => z.elim
    obtain ⟨H3, j1, j2, j3, j4⟩ := sn_any (d := d + 5) k2 S2 W hn
    have k3 := k2.no j2
    obtain ⟨-, -, mn3, -⟩ := mvS k3
    have wh : whZ g z l p = -1 := by unfold whZ; rw [e2, e3, e4]; rfl
    have F3 : Fr H H3 (fun _ => False) := (g2.tr i2).tr j2
    have pz := (pkZ_lt (nm := nm) (w := wdv g z p) W).1
    rw [e5, bZ_f] at b5
    rw [e6, bZ_f] at b6
    rw [e1, e7, bZ_f, wh] at st
    have nc : ¬ (isW g z l p wNOT = false ∧ isS g z l p 40 = false ∧ leafZ g z l S nm p < 0) := fun u => by rw [e0] at u; omega
    by_cases c : pkZ S nm (wdv g z p) = 0
    · have nd3 := rc_need (d := d + 4) k3 (b := false) (k := 3) (by omega) (by omega)
      rw [if_neg (by decide), bZ_f] at nd3
      obtain ⟨H4, r1, r2, r3, r4, r5⟩ := nd3
      have r1' := (mn3 (d + 9) _ _).trans r1
      rw [decide_eq_false (fun u => u c), bZ_f] at j1
      refine Or.inr (Or.inl ⟨nc, by rw [e0]; omega, H4, H3.1, st.trans ?_, r5, F3.tr r2, by omega, by omega⟩)
      simp (disch := first | assumption | omega | decide | exact okF_i | exact okF_r | exact okF_n | exact okF_j | rfl) only [jc_ref, rI_int, rR_ref, rR_null, rJ_long, ckR_ref, ckR_null, ckr_ref, ckr_null, ckW_int, ckW_ref, ckW_null, cI_ok, cR_ok, cR_null, cV_ok, cJ_ok, qH_eq, qD_in, aG_ref, aS_ref, aL_ref, pF_ref, cK_ref, cK_null, zI_lit, zJ_lit, zI_add, zI_sub, zI_mul, zI_neg, zI_eq, zI_lt, zI_le, Int.reduceLT, Int.reduceLE, Int.reduceAdd, Int.reduceSub, Int.reduceMul, Int.reduceNeg, Int.reduceEq, Int.reduceNe, reduceIte, jf_in, pFc_in, aGi, aGb, aSi, aLc_in, cKc_in, nA_in, jm_s1, jm_s2, jm_p1, jm_p2, jm_b, jn_b, jn_s, jn_p, jset_jset, jset_jpush2, ckR_is, ckr_is, rR_is, ckW_is, cR_is, obi2, ckW_int, eq_self, if_true, ref_null, if_false, ne_eq, not_true_eq_false, not_false_eq_true, decide_true, decide_false, decide_not, Bool.true_and, Bool.false_and, Bool.and_true, Bool.and_false, Bool.true_or, Bool.false_or, Bool.or_true, Bool.or_false, Bool.not_true, Bool.not_false, Bool.false_eq_true, bI_t, bI_f, Int.natCast_one, Int.cast_ofNat_Int, Int.natCast_zero, ju_self, ju_ne, a5, b5, a6, b6, g1', ndt1', i1', j1, r1', cV_th]
    · have nd3 := rc_need (d := d + 4) k3 (b := true) (k := 3) (by omega) (by omega)
      rw [if_pos rfl, bZ_t] at nd3
      have nd3' := (mn3 (d + 9) _ _).trans nd3
      rw [decide_eq_true c, bZ_t] at j1
      refine Or.inr (Or.inr ⟨nc, by rw [e0]; omega, H3, st.trans ?_, F3, by omega, by omega⟩)
      rw [e5, e7, e1, bZ_f, wh]
      simp (disch := first | assumption | omega | decide | exact okF_i | exact okF_r | exact okF_n | exact okF_j | rfl) only [jc_ref, rI_int, rR_ref, rR_null, rJ_long, ckR_ref, ckR_null, ckr_ref, ckr_null, ckW_int, ckW_ref, ckW_null, cI_ok, cR_ok, cR_null, cV_ok, cJ_ok, qH_eq, qD_in, aG_ref, aS_ref, aL_ref, pF_ref, cK_ref, cK_null, zI_lit, zJ_lit, zI_add, zI_sub, zI_mul, zI_neg, zI_eq, zI_lt, zI_le, Int.reduceLT, Int.reduceLE, Int.reduceAdd, Int.reduceSub, Int.reduceMul, Int.reduceNeg, Int.reduceEq, Int.reduceNe, reduceIte, jf_in, pFc_in, aGi, aGb, aSi, aLc_in, cKc_in, nA_in, jm_s1, jm_s2, jm_p1, jm_p2, jm_b, jn_b, jn_s, jn_p, jset_jset, jset_jpush2, ckR_is, ckr_is, rR_is, ckW_is, cR_is, obi2, ckW_int, eq_self, if_true, ref_null, if_false, ne_eq, not_true_eq_false, not_false_eq_true, decide_true, decide_false, decide_not, Bool.true_and, Bool.false_and, Bool.and_true, Bool.and_false, Bool.true_or, Bool.false_or, Bool.or_true, Bool.or_false, Bool.not_true, Bool.not_false, Bool.false_eq_true, bI_t, bI_f, Int.natCast_one, Int.cast_ofNat_Int, Int.natCast_zero, ju_self, ju_ne, a5, b5, a6, b6, g1', ndt1', i1', j1, nd3']
  | false =>
    rw [hn, bZ_f] at g1'
    have lt := leafZ_lt (S := S) (nm := nm) hn
    have ne : ¬ leafZ g z l S nm p = 100 := by omega
    cases e7 : isS g z l p 40 with
    | true =>
      rw [e7, bZ_t] at st
      refine Or.inr (Or.inr ⟨fun u => absurd u.2.1 (by decide), ne, H1, st.trans ?_, g2, by omega, by omega⟩)
      rw [bZ_t]
      generalize isW g z l p wIN = wi at b5 ⊢
      generalize isW g z l p wNOT = wn
      simp (disch := first | assumption | omega | decide | exact okF_i | exact okF_r | exact okF_n | exact okF_j | rfl) only [jc_ref, rI_int, rR_ref, rR_null, rJ_long, ckR_ref, ckR_null, ckr_ref, ckr_null, ckW_int, ckW_ref, ckW_null, cI_ok, cR_ok, cR_null, cV_ok, cJ_ok, qH_eq, qD_in, aG_ref, aS_ref, aL_ref, pF_ref, cK_ref, cK_null, zI_lit, zJ_lit, zI_add, zI_sub, zI_mul, zI_neg, zI_eq, zI_lt, zI_le, Int.reduceLT, Int.reduceLE, Int.reduceAdd, Int.reduceSub, Int.reduceMul, Int.reduceNeg, Int.reduceEq, Int.reduceNe, reduceIte, jf_in, pFc_in, aGi, aGb, aSi, aLc_in, cKc_in, nA_in, jm_s1, jm_s2, jm_p1, jm_p2, jm_b, jn_b, jn_s, jn_p, jset_jset, jset_jpush2, ckR_is, ckr_is, rR_is, ckW_is, cR_is, obi2, ckW_int, eq_self, if_true, ref_null, if_false, ne_eq, not_true_eq_false, not_false_eq_true, decide_true, decide_false, decide_not, Bool.true_and, Bool.false_and, Bool.and_true, Bool.and_false, Bool.true_or, Bool.false_or, Bool.or_true, Bool.or_false, Bool.not_true, Bool.not_false, Bool.false_eq_true, bI_t, bI_f, Int.natCast_one, Int.cast_ofNat_Int, Int.natCast_zero, ju_self, ju_ne, a5, b5, ndt', g1']
    | false =>
    rw [e7, bZ_f] at st
    cases e1 : isW g z l p wNOT with
    | true =>
      rw [e1, bZ_t] at st
      refine Or.inr (Or.inr ⟨fun u => absurd u.1 (by decide), ne, H1, st.trans ?_, g2, by omega, by omega⟩)
      rw [bZ_t, bZ_f]
      generalize isW g z l p wIN = wi at b5 ⊢
      simp (disch := first | assumption | omega | decide | exact okF_i | exact okF_r | exact okF_n | exact okF_j | rfl) only [jc_ref, rI_int, rR_ref, rR_null, rJ_long, ckR_ref, ckR_null, ckr_ref, ckr_null, ckW_int, ckW_ref, ckW_null, cI_ok, cR_ok, cR_null, cV_ok, cJ_ok, qH_eq, qD_in, aG_ref, aS_ref, aL_ref, pF_ref, cK_ref, cK_null, zI_lit, zJ_lit, zI_add, zI_sub, zI_mul, zI_neg, zI_eq, zI_lt, zI_le, Int.reduceLT, Int.reduceLE, Int.reduceAdd, Int.reduceSub, Int.reduceMul, Int.reduceNeg, Int.reduceEq, Int.reduceNe, reduceIte, jf_in, pFc_in, aGi, aGb, aSi, aLc_in, cKc_in, nA_in, jm_s1, jm_s2, jm_p1, jm_p2, jm_b, jn_b, jn_s, jn_p, jset_jset, jset_jpush2, ckR_is, ckr_is, rR_is, ckW_is, cR_is, obi2, ckW_int, eq_self, if_true, ref_null, if_false, ne_eq, not_true_eq_false, not_false_eq_true, decide_true, decide_false, decide_not, Bool.true_and, Bool.false_and, Bool.and_true, Bool.and_false, Bool.true_or, Bool.false_or, Bool.or_true, Bool.or_false, Bool.not_true, Bool.not_false, Bool.false_eq_true, bI_t, bI_f, Int.natCast_one, Int.cast_ofNat_Int, Int.natCast_zero, ju_self, ju_ne, a5, b5, ndt', g1']
    | false =>
    rw [e1, bZ_f] at st
    by_cases wh : whZ g z l p = -1
    · have wh' := wh
      unfold whZ at wh'
      have e2 : isW g z l p wBARE = false := by
        cases e : isW g z l p wBARE with
        | false => rfl
        | true => rw [e, if_pos rfl] at wh'; omega
      rw [e2, if_neg (by decide)] at wh'
      have e3 : isW g z l p wKNOWN = false := by
        cases e : isW g z l p wKNOWN with
        | false => rfl
        | true => rw [e, if_pos rfl] at wh'; omega
      rw [e3, if_neg (by decide)] at wh'
      have e4 : isW g z l p wBROKEN = false := by
        cases e : isW g z l p wBROKEN with
        | false => rfl
        | true => rw [e, if_pos rfl] at wh'; omega
      have lz : leafZ g z l S nm p = if isW g z l p wIN = true then 3 else if isW g z l p wROW = true then 4 else -1 := by
        unfold leafZ
        rw [e2, e3, e4, hn]
        rfl
      rw [wh] at st
      cases e5 : isW g z l p wIN with
      | true =>
        rw [e5, bZ_t] at b5
        rw [e5, if_pos rfl] at lz
        refine Or.inr (Or.inr ⟨fun u => by rw [lz] at u; exact absurd u.2.2 (by decide), ne, H1, st.trans ?_, g2, by omega, by omega⟩)
        rw [bZ_f, bZ_t, wh]
        simp (disch := first | assumption | omega | decide | exact okF_i | exact okF_r | exact okF_n | exact okF_j | rfl) only [jc_ref, rI_int, rR_ref, rR_null, rJ_long, ckR_ref, ckR_null, ckr_ref, ckr_null, ckW_int, ckW_ref, ckW_null, cI_ok, cR_ok, cR_null, cV_ok, cJ_ok, qH_eq, qD_in, aG_ref, aS_ref, aL_ref, pF_ref, cK_ref, cK_null, zI_lit, zJ_lit, zI_add, zI_sub, zI_mul, zI_neg, zI_eq, zI_lt, zI_le, Int.reduceLT, Int.reduceLE, Int.reduceAdd, Int.reduceSub, Int.reduceMul, Int.reduceNeg, Int.reduceEq, Int.reduceNe, reduceIte, jf_in, pFc_in, aGi, aGb, aSi, aLc_in, cKc_in, nA_in, jm_s1, jm_s2, jm_p1, jm_p2, jm_b, jn_b, jn_s, jn_p, jset_jset, jset_jpush2, ckR_is, ckr_is, rR_is, ckW_is, cR_is, obi2, ckW_int, eq_self, if_true, ref_null, if_false, ne_eq, not_true_eq_false, not_false_eq_true, decide_true, decide_false, decide_not, Bool.true_and, Bool.false_and, Bool.and_true, Bool.and_false, Bool.true_or, Bool.false_or, Bool.or_true, Bool.or_false, Bool.not_true, Bool.not_false, Bool.false_eq_true, bI_t, bI_f, Int.natCast_one, Int.cast_ofNat_Int, Int.natCast_zero, ju_self, ju_ne, a5, b5, ndt', g1']
      | false =>
      rw [e5, bZ_f] at b5
      rw [e5, if_neg (by decide)] at lz
      cases e6 : isW g z l p wROW with
      | true =>
        rw [e6, bZ_t] at b6
        rw [e6, if_pos rfl] at lz
        refine Or.inr (Or.inr ⟨fun u => by rw [lz] at u; exact absurd u.2.2 (by decide), ne, H1, st.trans ?_, g2, by omega, by omega⟩)
        rw [bZ_f, wh]
        simp (disch := first | assumption | omega | decide | exact okF_i | exact okF_r | exact okF_n | exact okF_j | rfl) only [jc_ref, rI_int, rR_ref, rR_null, rJ_long, ckR_ref, ckR_null, ckr_ref, ckr_null, ckW_int, ckW_ref, ckW_null, cI_ok, cR_ok, cR_null, cV_ok, cJ_ok, qH_eq, qD_in, aG_ref, aS_ref, aL_ref, pF_ref, cK_ref, cK_null, zI_lit, zJ_lit, zI_add, zI_sub, zI_mul, zI_neg, zI_eq, zI_lt, zI_le, Int.reduceLT, Int.reduceLE, Int.reduceAdd, Int.reduceSub, Int.reduceMul, Int.reduceNeg, Int.reduceEq, Int.reduceNe, reduceIte, jf_in, pFc_in, aGi, aGb, aSi, aLc_in, cKc_in, nA_in, jm_s1, jm_s2, jm_p1, jm_p2, jm_b, jn_b, jn_s, jn_p, jset_jset, jset_jpush2, ckR_is, ckr_is, rR_is, ckW_is, cR_is, obi2, ckW_int, eq_self, if_true, ref_null, if_false, ne_eq, not_true_eq_false, not_false_eq_true, decide_true, decide_false, decide_not, Bool.true_and, Bool.false_and, Bool.and_true, Bool.and_false, Bool.true_or, Bool.false_or, Bool.or_true, Bool.or_false, Bool.not_true, Bool.not_false, Bool.false_eq_true, bI_t, bI_f, Int.natCast_one, Int.cast_ofNat_Int, Int.natCast_zero, ju_self, ju_ne, a5, b5, a6, b6, ndt', g1']
      | false =>
        rw [e6, bZ_f] at b6
        rw [e6, if_neg (by decide)] at lz
        have k1 := h.no g2
        obtain ⟨-, -, mn1, -⟩ := mvS k1
        have nf := rc_need (d := d + 4) k1 (b := false) (k := 1) (by omega) (by omega)
        rw [if_neg (by decide), bZ_f] at nf
        obtain ⟨H4, r1, r2, r3, r4, r5⟩ := nf
        have r1' := (mn1 (d + 9) _ _).trans r1
        refine Or.inl ⟨⟨rfl, rfl, by rw [lz]; decide⟩, H4, H1.1, st.trans ?_, r5, g2.tr r2, by omega, by omega⟩
        simp (disch := first | assumption | omega | decide | exact okF_i | exact okF_r | exact okF_n | exact okF_j | rfl) only [jc_ref, rI_int, rR_ref, rR_null, rJ_long, ckR_ref, ckR_null, ckr_ref, ckr_null, ckW_int, ckW_ref, ckW_null, cI_ok, cR_ok, cR_null, cV_ok, cJ_ok, qH_eq, qD_in, aG_ref, aS_ref, aL_ref, pF_ref, cK_ref, cK_null, zI_lit, zJ_lit, zI_add, zI_sub, zI_mul, zI_neg, zI_eq, zI_lt, zI_le, Int.reduceLT, Int.reduceLE, Int.reduceAdd, Int.reduceSub, Int.reduceMul, Int.reduceNeg, Int.reduceEq, Int.reduceNe, reduceIte, jf_in, pFc_in, aGi, aGb, aSi, aLc_in, cKc_in, nA_in, jm_s1, jm_s2, jm_p1, jm_p2, jm_b, jn_b, jn_s, jn_p, jset_jset, jset_jpush2, ckR_is, ckr_is, rR_is, ckW_is, cR_is, obi2, ckW_int, eq_self, if_true, ref_null, if_false, ne_eq, not_true_eq_false, not_false_eq_true, decide_true, decide_false, decide_not, Bool.true_and, Bool.false_and, Bool.and_true, Bool.and_false, Bool.true_or, Bool.false_or, Bool.or_true, Bool.or_false, Bool.not_true, Bool.not_false, Bool.false_eq_true, bI_t, bI_f, Int.natCast_one, Int.cast_ofNat_Int, Int.natCast_zero, ju_self, ju_ne, a5, b5, a6, b6, g1', r1', cV_th]
    · have pos : 0 ≤ leafZ g z l S nm p := by
        unfold whZ at wh
        unfold leafZ
        split
        · omega
        · rename_i q2
          rw [if_neg q2] at wh
          split
          · omega
          · rename_i q3
            rw [if_neg q3] at wh
            split
            · omega
            · rename_i q4
              rw [if_neg q4] at wh
              omega
      have wr : -1 ≤ whZ g z l p ∧ whZ g z l p ≤ 2 := by
        unfold whZ
        split
        · omega
        · split
          · omega
          · split <;> omega
      refine Or.inr (Or.inr ⟨fun u => by omega, ne, H1, st.trans ?_, g2, by omega, by omega⟩)
      rw [bZ_f]
      generalize isW g z l p wIN = wi at b5 ⊢
      generalize whZ g z l p = wz at wh wr ⊢
      simp (disch := first | assumption | omega | decide | exact okF_i | exact okF_r | exact okF_n | exact okF_j | rfl) only [jc_ref, rI_int, rR_ref, rR_null, rJ_long, ckR_ref, ckR_null, ckr_ref, ckr_null, ckW_int, ckW_ref, ckW_null, cI_ok, cR_ok, cR_null, cV_ok, cJ_ok, qH_eq, qD_in, aG_ref, aS_ref, aL_ref, pF_ref, cK_ref, cK_null, zI_lit, zJ_lit, zI_add, zI_sub, zI_mul, zI_neg, zI_eq, zI_lt, zI_le, Int.reduceLT, Int.reduceLE, Int.reduceAdd, Int.reduceSub, Int.reduceMul, Int.reduceNeg, Int.reduceEq, Int.reduceNe, reduceIte, jf_in, pFc_in, aGi, aGb, aSi, aLc_in, cKc_in, nA_in, jm_s1, jm_s2, jm_p1, jm_p2, jm_b, jn_b, jn_s, jn_p, jset_jset, jset_jpush2, ckR_is, ckr_is, rR_is, ckW_is, cR_is, obi2, ckW_int, eq_self, if_true, ref_null, if_false, ne_eq, not_true_eq_false, not_false_eq_true, decide_true, decide_false, decide_not, Bool.true_and, Bool.false_and, Bool.and_true, Bool.and_false, Bool.true_or, Bool.false_or, Bool.or_true, Bool.or_false, Bool.not_true, Bool.not_false, Bool.false_eq_true, bI_t, bI_f, Int.natCast_one, Int.cast_ofNat_Int, Int.natCast_zero, ju_self, ju_ne, a5, b5, ndt', g1', wh]
end
