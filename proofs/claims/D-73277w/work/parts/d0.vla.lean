/-! violations of all rows, unsorted -/
-- jc_ref, rI_int, rR_ref, rR_null, rJ_long, ckR_ref, ckR_null, ckr_ref, ckr_null, ckW_int, ckW_ref, ckW_null, cI_ok, cR_ok, cR_null, cV_ok, cJ_ok, qH_eq, qD_in, aG_ref, aS_ref, aL_ref, pF_ref, cK_ref, cK_null, zI_lit, zJ_lit, zI_add, zI_sub, zI_mul, zI_neg, zI_eq, zI_lt, zI_le, Int.reduceLT, Int.reduceLE, Int.reduceAdd, Int.reduceSub, Int.reduceMul, Int.reduceNeg, Int.reduceEq, Int.reduceNe, reduceIte, jf_in, pFc_in, aGi, aGb, aSi, aLc_in, cKc_in, nA_in, jm_s1, jm_s2, jm_p1, jm_p2, jm_b, jn_b, jn_s, jn_p, jset_jset, jset_jpush2, ckR_is, ckr_is, rR_is, ckW_is, cR_is, obi2, ckW_int, eq_self, if_true, ref_null, if_false, ne_eq, not_true_eq_false, not_false_eq_true, decide_true, decide_false, decide_not, Bool.true_and, Bool.false_and, Bool.and_true, Bool.and_false, Bool.true_or, Bool.false_or, Bool.or_true, Bool.or_false, Bool.not_true, Bool.not_false, Bool.false_eq_true, bI_t, bI_f, Int.natCast_one, Int.cast_ofNat_Int, Int.natCast_zero, o23_0, o23_1, o23_2, o12_0, o12_1, o13_0, o13_1, o13_2, o13_3, o13_4, o13_5, o13_6, o14_0, o14_1, o14_2, o14_3, o14_4, o14_5, o3_0, o3_1, o3_2, o3_3, o3_4, o11_0, o11_1, o11_2, o11_3, o4_0, o4_1, o4_2, o4_3, o4_4, o4_5, o4_6, o24_0, o24_1, o24_2, o24_3, n24, o24s_0, o24s_1, o24s_2, o24s_3 = jc_ref, rI_int, rR_ref, rR_null, rJ_long, ckR_ref, ckR_null, ckr_ref, ckr_null, ckW_int, ckW_ref, ckW_null, cI_ok, cR_ok, cR_null, cV_ok, cJ_ok, qH_eq, qD_in, aG_ref, aS_ref, aL_ref, pF_ref, cK_ref, cK_null, zI_lit, zJ_lit, zI_add, zI_sub, zI_mul, zI_neg, zI_eq, zI_lt, zI_le, Int.reduceLT, Int.reduceLE, Int.reduceAdd, Int.reduceSub, Int.reduceMul, Int.reduceNeg, Int.reduceEq, Int.reduceNe, reduceIte, jf_in, pFc_in, aGi, aGb, aSi, aLc_in, cKc_in, nA_in, jm_s1, jm_s2, jm_p1, jm_p2, jm_b, jn_b, jn_s, jn_p, jset_jset, jset_jpush2, ckR_is, ckr_is, rR_is, ckW_is, cR_is, obi2, ckW_int, eq_self, if_true, ref_null, if_false, ne_eq, not_true_eq_false, not_false_eq_true, decide_true, decide_false, decide_not, Bool.true_and, Bool.false_and, Bool.and_true, Bool.and_false, Bool.true_or, Bool.false_or, Bool.or_true, Bool.or_false, Bool.not_true, Bool.not_false, Bool.false_eq_true, bI_t, bI_f, Int.natCast_one, Int.cast_ofNat_Int, Int.natCast_zero, o23_0, o23_1, o23_2, o12_0, o12_1, o13_0, o13_1, o13_2, o13_3, o13_4, o13_5, o13_6, o14_0, o14_1, o14_2, o14_3, o14_4, o14_5, o3_0, o3_1, o3_2, o3_3, o3_4, o11_0, o11_1, o11_2, o11_3, o4_0, o4_1, o4_2, o4_3, o4_4, o4_5, o4_6, o24_0, o24_1, o24_2, o24_3, n24, o24s_0, o24s_1, o24s_2, o24s_3
def lstV (S : Int → Int) (late : Bool) : List Int → List Vi
  | [] => []
  | x :: s => rowV S late x ++ lstV S late s
section
variable {F : Nat → Option Cl} {d : Nat} {H H0 : AH} {a b e q fb : Nat} {r t c k n f : Int} {cs S nm : Int → Int} {ra : Int → Nat} {xs : List Vi}
theorem rowV_len (W : StW S) {late : Bool} (r0 : 0 ≤ r) (r1 : r < 99) : (rowV S late r).length ≤ 22 := by
  have N0 := W.n0
  have TA := W.ta r0 r1
  have C1 := W.co TA.1 TA.2
  unfold rowV
  have h1 := rwF_len (so := 1) (r := r) (P := ndP S r) (S (4 + S (249 + r))).toNat 0
  have h2 := rwF_len (so := 2) (r := r) (P := kyP S r) (S 1).toNat 0
  have h3 := rwF_len (so := 3) (r := r) (P := rfQ S late r) (S 2).toNat 0
  have h4 := rwF_len (so := 4) (r := r) (P := ckP S late r) (S 3).toNat 0
  simp only [List.length_append]
  omega
theorem c_vrow (W : StW S) (hF : Fzn F H0) (hS : SchF F q S nm) (hQ : StoQ F H0 a q S ra) (hb : RowF F (ra r) r (S (249 + r)) (cellS S r)) (r0 : 0 ≤ r) (r1 : r < 99) (r2 : S (150 + r) = 1) {late : Bool} (hV : VI S H0 H xs) (hl : xs.length < 40000) :
    ∃ H2, M2 (d + 7) 4013 [.ref a, .ref (ra r), .int (zI (bZ late)), .ref H0.1] H = some (.inl none, H2) ∧ VI S H0 H2 (xs ++ rowV S late r) := by
  have hS' := hS
  obtain ⟨ln, qt, qk, qr, qc, m, hTs, -⟩ := hS
  have N0 := W.n0
  have TA := W.ta r0 r1
  have C1 := W.co TA.1 TA.2
  have t1 := ((W.2.1 r r0 r1).1.2 r2).1
  have hF1 := hF.f0 hV.1
  have hQ1 := hQ.fr hV.1
  have m' := hF1.m m
  obtain ⟨tb, hT, g1⟩ := hTs.get hF1 TA.1 t1
  obtain ⟨be, bg, b1, b2, b3⟩ := id hb
  have b1' := hF1.m b1
  obtain ⟨ins, on, ar, v1, v2, v3, cap, mc, l, h1, -⟩ := hQ1
  have h1l := rwF_len (so := 1) (r := r) (P := ndP S r) (S (4 + S (249 + r))).toNat 0
  have h2l := rwF_len (so := 2) (r := r) (P := kyP S r) (S 1).toNat 0
  have h3l := rwF_len (so := 3) (r := r) (P := rfQ S late r) (S 2).toNat 0
  obtain ⟨H2, a1, a2⟩ := vr_nd (d := d) W hF hS' hQ hb r0 r1 t1 (late := bZ late) hT (S (4 + S (249 + r))).toNat 0 H xs hV (Int.le_refl _) (by omega) (by omega)
  obtain ⟨H3, a3, a4⟩ := vr_ky (d := d) W hF hS' hQ hb r0 r1 r2 (late := bZ late) (tb := tb) (S 1).toNat 0 H2 _ a2 (Int.le_refl _) (by omega) (by rw [List.length_append]; omega)
  obtain ⟨H4, a5, a6⟩ := vr_rf (d := d) W hF hS' hQ hb r0 r1 (late := late) (tb := tb) (S 2).toNat 0 H3 _ a4 (Int.le_refl _) (by omega) (by rw [List.length_append, List.length_append]; omega)
  obtain ⟨H5, a7, a8⟩ := vr_ck (d := d) W hF hS' hQ hb r0 r1 (late := late) (tb := tb) (S 3).toNat 0 H4 _ a6 (Int.le_refl _) (by omega) (by rw [List.length_append, List.length_append, List.length_append]; omega)
  obtain ⟨qn, qcs, qd, qb, u1, -⟩ := id hT
  have u1' := hF1.m u1
  refine ⟨H5, ?_, ?_⟩
  · rw [Y4013 H rfl rfl (jrecv_in h1 rfl), F4013_0]
    simp (disch := first | assumption | omega | decide | exact okF_i | exact okF_r | exact okF_n | exact okF_j | rfl) only [jc_ref, rI_int, rR_ref, rR_null, rJ_long, ckR_ref, ckR_null, ckr_ref, ckr_null, ckW_int, ckW_ref, ckW_null, cI_ok, cR_ok, cR_null, cV_ok, cJ_ok, qH_eq, qD_in, aG_ref, aS_ref, aL_ref, pF_ref, cK_ref, cK_null, zI_lit, zJ_lit, zI_add, zI_sub, zI_mul, zI_neg, zI_eq, zI_lt, zI_le, Int.reduceLT, Int.reduceLE, Int.reduceAdd, Int.reduceSub, Int.reduceMul, Int.reduceNeg, Int.reduceEq, Int.reduceNe, reduceIte, jf_in, pFc_in, aGi, aGb, aSi, aLc_in, cKc_in, nA_in, jm_s1, jm_s2, jm_p1, jm_p2, jm_b, jn_b, jn_s, jn_p, jset_jset, jset_jpush2, ckR_is, ckr_is, rR_is, ckW_is, cR_is, obi2, ckW_int, eq_self, if_true, ref_null, if_false, ne_eq, not_true_eq_false, not_false_eq_true, decide_true, decide_false, decide_not, Bool.true_and, Bool.false_and, Bool.and_true, Bool.and_false, Bool.true_or, Bool.false_or, Bool.or_true, Bool.or_false, Bool.not_true, Bool.not_false, Bool.false_eq_true, bI_t, bI_f, Int.natCast_one, Int.cast_ofNat_Int, Int.natCast_zero, o23_0, o23_1, o23_2, o12_0, o12_1, o13_0, o13_1, o13_2, o13_3, o13_4, o13_5, o13_6, o14_0, o14_1, o14_2, o14_3, o14_4, o14_5, o3_0, o3_1, o3_2, o3_3, o3_4, o11_0, o11_1, o11_2, o11_3, o4_0, o4_1, o4_2, o4_3, o4_4, o4_5, o4_6, o24_0, o24_1, o24_2, o24_3, n24, o24s_0, o24s_1, o24s_2, o24s_3, h1, m', b1', g1, u1']
    exact a1.trans (a3.trans (a5.trans a7))
  · unfold rowV
    rw [← List.append_assoc, ← List.append_assoc, ← List.append_assoc]
    exact a8
theorem va_loop (W : StW S) (hF : Fzn F H0) (hS : SchF F q S nm) (hQ : StoQ F H0 a q S ra) {late : Bool} : ∀ (s : List Int) (n : Nat) (H : AH) (xs : List Vi), (alv S 150 99 0).drop n = s → n ≤ (alv S 150 99 0).length → VI S H0 H xs → xs.length ≤ 22 * n →
    ∃ H2, G2 (d + 7) 4012 10 [.ref a, .int (zI (bZ late)), .ref H0.1, .int (zI n)] [] H = zcV (M2 (d + 7) 71000 [.ref H0.1] H2) (fun h5 => some (.inl (some (.ref H0.1)), h5)) () ∧ VI S H0 H2 (xs ++ lstV S late s) := by
  intro s
  induction s with
  | nil =>
    intro n H xs hn hnl hV hxl
    have hQ1 := hQ.fr hV.1
    obtain ⟨ins, on, ar, v1, v2, v3, cap, mc, l, h1, h2, h3, h4, -⟩ := hQ1
    have hl := rows_len h4
    have hle := alv_le W
    have hsz := h_size (d := d + 6) h2
    have : (alv S 150 99 0).length ≤ n := by
      have := congrArg List.length hn
      simp at this
      omega
    refine ⟨H, ?_, by rw [lstV, List.append_nil]; exact hV⟩
    rw [F4012_10]
    simp (disch := first | assumption | omega | decide | exact okF_i | exact okF_r | exact okF_n | exact okF_j | rfl) only [jc_ref, rI_int, rR_ref, rR_null, rJ_long, ckR_ref, ckR_null, ckr_ref, ckr_null, ckW_int, ckW_ref, ckW_null, cI_ok, cR_ok, cR_null, cV_ok, cJ_ok, qH_eq, qD_in, aG_ref, aS_ref, aL_ref, pF_ref, cK_ref, cK_null, zI_lit, zJ_lit, zI_add, zI_sub, zI_mul, zI_neg, zI_eq, zI_lt, zI_le, Int.reduceLT, Int.reduceLE, Int.reduceAdd, Int.reduceSub, Int.reduceMul, Int.reduceNeg, Int.reduceEq, Int.reduceNe, reduceIte, jf_in, pFc_in, aGi, aGb, aSi, aLc_in, cKc_in, nA_in, jm_s1, jm_s2, jm_p1, jm_p2, jm_b, jn_b, jn_s, jn_p, jset_jset, jset_jpush2, ckR_is, ckr_is, rR_is, ckW_is, cR_is, obi2, ckW_int, eq_self, if_true, ref_null, if_false, ne_eq, not_true_eq_false, not_false_eq_true, decide_true, decide_false, decide_not, Bool.true_and, Bool.false_and, Bool.and_true, Bool.and_false, Bool.true_or, Bool.false_or, Bool.or_true, Bool.or_false, Bool.not_true, Bool.not_false, Bool.false_eq_true, bI_t, bI_f, Int.natCast_one, Int.cast_ofNat_Int, Int.natCast_zero, o23_0, o23_1, o23_2, o12_0, o12_1, o13_0, o13_1, o13_2, o13_3, o13_4, o13_5, o13_6, o14_0, o14_1, o14_2, o14_3, o14_4, o14_5, o3_0, o3_1, o3_2, o3_3, o3_4, o11_0, o11_1, o11_2, o11_3, o4_0, o4_1, o4_2, o4_3, o4_4, o4_5, o4_6, o24_0, o24_1, o24_2, o24_3, n24, o24s_0, o24s_1, o24s_2, o24s_3, h1, hsz]
    rw [if_pos (by omega)]
  | cons x s ih =>
    intro n H xs hn hnl hV hxl
    have hF1 := hF.f0 hV.1
    have hQ1 := hQ.fr hV.1
    obtain ⟨ins, on, ar, v1, v2, v3, cap, mc, l, h1, h2, h3, h4, -⟩ := hQ1
    have hl := rows_len h4
    have hle := alv_le W
    have hsz := h_size (d := d + 6) h2
    obtain ⟨e1, e2, e3, e4, x0, x1, x2⟩ := rows_at h4 rfl hn
    have hg := h_get (d := d + 6) (i := n) h2 (by omega) (by omega) (by omega) (by omega)
    rw [Int.toNat_natCast, e1] at hg
    obtain ⟨be, bg, b1, b2, b3⟩ := id e2
    have b1' := hF1.m b1
    have rl := rowV_len W (late := late) x0 x1
    obtain ⟨H2, a1, a2⟩ := c_vrow (d := d) W hF hS hQ e2 x0 x1 x2 (late := late) hV (by omega)
    obtain ⟨H3, i1, i2⟩ := ih (n + 1) H2 _ e3 (by omega) a2 (by rw [List.length_append]; omega)
    refine ⟨H3, ?_, by rw [lstV, ← List.append_assoc]; exact i2⟩
    rw [F4012_10]
    simp (disch := first | assumption | omega | decide | exact okF_i | exact okF_r | exact okF_n | exact okF_j | rfl) only [jc_ref, rI_int, rR_ref, rR_null, rJ_long, ckR_ref, ckR_null, ckr_ref, ckr_null, ckW_int, ckW_ref, ckW_null, cI_ok, cR_ok, cR_null, cV_ok, cJ_ok, qH_eq, qD_in, aG_ref, aS_ref, aL_ref, pF_ref, cK_ref, cK_null, zI_lit, zJ_lit, zI_add, zI_sub, zI_mul, zI_neg, zI_eq, zI_lt, zI_le, Int.reduceLT, Int.reduceLE, Int.reduceAdd, Int.reduceSub, Int.reduceMul, Int.reduceNeg, Int.reduceEq, Int.reduceNe, reduceIte, jf_in, pFc_in, aGi, aGb, aSi, aLc_in, cKc_in, nA_in, jm_s1, jm_s2, jm_p1, jm_p2, jm_b, jn_b, jn_s, jn_p, jset_jset, jset_jpush2, ckR_is, ckr_is, rR_is, ckW_is, cR_is, obi2, ckW_int, eq_self, if_true, ref_null, if_false, ne_eq, not_true_eq_false, not_false_eq_true, decide_true, decide_false, decide_not, Bool.true_and, Bool.false_and, Bool.and_true, Bool.and_false, Bool.true_or, Bool.false_or, Bool.or_true, Bool.or_false, Bool.not_true, Bool.not_false, Bool.false_eq_true, bI_t, bI_f, Int.natCast_one, Int.cast_ofNat_Int, Int.natCast_zero, o23_0, o23_1, o23_2, o12_0, o12_1, o13_0, o13_1, o13_2, o13_3, o13_4, o13_5, o13_6, o14_0, o14_1, o14_2, o14_3, o14_4, o14_5, o3_0, o3_1, o3_2, o3_3, o3_4, o11_0, o11_1, o11_2, o11_3, o4_0, o4_1, o4_2, o4_3, o4_4, o4_5, o4_6, o24_0, o24_1, o24_2, o24_3, n24, o24s_0, o24s_1, o24s_2, o24s_3, h1, hsz, hg, b1', a1]
    rw [if_neg (by omega)]
    exact i1
theorem c_viol0 (W : StW S) (hF : Fzn F H0) (hS : SchF F q S nm) (hQ : StoQ F H0 a q S ra) {late : Bool} :
    ∃ H2, M2 (d + 8) 4012 [.ref a, .int (zI (bZ late))] H0 = zcV (M2 (d + 7) 71000 [.ref H0.1] H2) (fun h5 => some (.inl (some (.ref H0.1)), h5)) () ∧ VI S H0 H2 (lstV S late (alv S 150 99 0)) := by
  have m0 : jm (jpush H0 (47, 4, o47 0 0 .null .null)) H0.1 = some (47, 4, o47 0 0 .null .null) := jm_p1
  obtain ⟨H1, a1, a2, a3, a4, a5⟩ := ll_new (d := d + 2) m0
  have fp : Fr H0 (jpush H0 (47, 4, o47 0 0 .null .null)) (fun _ => False) := Fr.push
  have v0 : VI S H0 H1 [] := by
    refine ⟨fp.new (a3.mono fun x hx z => Or.inr (by rw [z]; exact Nat.le_refl _)), [], [], a2, fun q hq => (by cases hq), rfl, fun i x hx => by simp at hx, ?_, ?_⟩
    · rw [a4]; rfl
    · rw [a5]; rfl
  have hQ' := hQ
  obtain ⟨ins, on, ar, v1, v2, v3, cap, mc, l, h1, -⟩ := hQ
  obtain ⟨H2, i1, i2⟩ := va_loop (d := d) W hF hS hQ' (late := late) (alv S 150 99 0) 0 H1 [] rfl (Nat.zero_le _) v0 (Nat.le_refl _)
  refine ⟨H2, ?_, by simpa using i2⟩
  rw [Y4012 H0 (jrecv_in h1 rfl), F4012_0]
  simp (disch := first | assumption | omega | decide | exact okF_i | exact okF_r | exact okF_n | exact okF_j | rfl) only [jc_ref, rI_int, rR_ref, rR_null, rJ_long, ckR_ref, ckR_null, ckr_ref, ckr_null, ckW_int, ckW_ref, ckW_null, cI_ok, cR_ok, cR_null, cV_ok, cJ_ok, qH_eq, qD_in, aG_ref, aS_ref, aL_ref, pF_ref, cK_ref, cK_null, zI_lit, zJ_lit, zI_add, zI_sub, zI_mul, zI_neg, zI_eq, zI_lt, zI_le, Int.reduceLT, Int.reduceLE, Int.reduceAdd, Int.reduceSub, Int.reduceMul, Int.reduceNeg, Int.reduceEq, Int.reduceNe, reduceIte, jf_in, pFc_in, aGi, aGb, aSi, aLc_in, cKc_in, nA_in, jm_s1, jm_s2, jm_p1, jm_p2, jm_b, jn_b, jn_s, jn_p, jset_jset, jset_jpush2, ckR_is, ckr_is, rR_is, ckW_is, cR_is, obi2, ckW_int, eq_self, if_true, ref_null, if_false, ne_eq, not_true_eq_false, not_false_eq_true, decide_true, decide_false, decide_not, Bool.true_and, Bool.false_and, Bool.and_true, Bool.and_false, Bool.true_or, Bool.false_or, Bool.or_true, Bool.or_false, Bool.not_true, Bool.not_false, Bool.false_eq_true, bI_t, bI_f, Int.natCast_one, Int.cast_ofNat_Int, Int.natCast_zero, o23_0, o23_1, o23_2, o12_0, o12_1, o13_0, o13_1, o13_2, o13_3, o13_4, o13_5, o13_6, o14_0, o14_1, o14_2, o14_3, o14_4, o14_5, o3_0, o3_1, o3_2, o3_3, o3_4, o11_0, o11_1, o11_2, o11_3, o4_0, o4_1, o4_2, o4_3, o4_4, o4_5, o4_6, o24_0, o24_1, o24_2, o24_3, n24, o24s_0, o24s_1, o24s_2, o24s_3, o47_0, o47_1, o47_2, o47_3, n47, o47s_0, o47s_1, o47s_2, o47s_3, a1]
  exact i1
end
