/-! a store's questions: twice, broken, needed, referred, find -/
-- jc_ref, rI_int, rR_ref, rR_null, rJ_long, ckR_ref, ckR_null, ckr_ref, ckr_null, ckW_int, ckW_ref, ckW_null, cI_ok, cR_ok, cR_null, cV_ok, cJ_ok, qH_eq, qD_in, aG_ref, aS_ref, aL_ref, pF_ref, cK_ref, cK_null, zI_lit, zJ_lit, zI_add, zI_sub, zI_mul, zI_neg, zI_eq, zI_lt, zI_le, Int.reduceLT, Int.reduceLE, Int.reduceAdd, Int.reduceSub, Int.reduceMul, Int.reduceNeg, Int.reduceEq, Int.reduceNe, reduceIte, jf_in, pFc_in, aGi, aGb, aSi, aLc_in, cKc_in, nA_in, jm_s1, jm_s2, jm_p1, jm_p2, jm_b, jn_b, jn_s, jn_p, jset_jset, jset_jpush2, ckR_is, ckr_is, rR_is, ckW_is, cR_is, obi2, ckW_int, eq_self, if_true, ref_null, if_false, ne_eq, not_true_eq_false, not_false_eq_true, decide_true, decide_false, decide_not, Bool.true_and, Bool.false_and, Bool.and_true, Bool.and_false, Bool.true_or, Bool.false_or, Bool.or_true, Bool.or_false, Bool.not_true, Bool.not_false, Bool.false_eq_true, bI_t, bI_f, Int.natCast_one, Int.cast_ofNat_Int, Int.natCast_zero, o23_0, o23_1, o23_2, o12_0, o12_1, o13_0, o13_1, o13_2, o13_3, o13_4, o13_5, o13_6, o14_0, o14_1, o14_2, o14_3, o14_4, o14_5, o3_0, o3_1, o3_2, o3_3, o3_4, o11_0, o11_1, o11_2, o11_3, o4_0, o4_1, o4_2, o4_3, o4_4, o4_5, o4_6 = jc_ref, rI_int, rR_ref, rR_null, rJ_long, ckR_ref, ckR_null, ckr_ref, ckr_null, ckW_int, ckW_ref, ckW_null, cI_ok, cR_ok, cR_null, cV_ok, cJ_ok, qH_eq, qD_in, aG_ref, aS_ref, aL_ref, pF_ref, cK_ref, cK_null, zI_lit, zJ_lit, zI_add, zI_sub, zI_mul, zI_neg, zI_eq, zI_lt, zI_le, Int.reduceLT, Int.reduceLE, Int.reduceAdd, Int.reduceSub, Int.reduceMul, Int.reduceNeg, Int.reduceEq, Int.reduceNe, reduceIte, jf_in, pFc_in, aGi, aGb, aSi, aLc_in, cKc_in, nA_in, jm_s1, jm_s2, jm_p1, jm_p2, jm_b, jn_b, jn_s, jn_p, jset_jset, jset_jpush2, ckR_is, ckr_is, rR_is, ckW_is, cR_is, obi2, ckW_int, eq_self, if_true, ref_null, if_false, ne_eq, not_true_eq_false, not_false_eq_true, decide_true, decide_false, decide_not, Bool.true_and, Bool.false_and, Bool.and_true, Bool.and_false, Bool.true_or, Bool.false_or, Bool.or_true, Bool.or_false, Bool.not_true, Bool.not_false, Bool.false_eq_true, bI_t, bI_f, Int.natCast_one, Int.cast_ofNat_Int, Int.natCast_zero, o23_0, o23_1, o23_2, o12_0, o12_1, o13_0, o13_1, o13_2, o13_3, o13_4, o13_5, o13_6, o14_0, o14_1, o14_2, o14_3, o14_4, o14_5, o3_0, o3_1, o3_2, o3_3, o3_4, o11_0, o11_1, o11_2, o11_3, o4_0, o4_1, o4_2, o4_3, o4_4, o4_5, o4_6
section
variable {F : Nat → Option Cl} {d : Nat} {H : AH} {a b e q fb : Nat} {r t c k f : Int} {cs S nm : Int → Int} {ra : Int → Nat}
theorem alv_sorted {at_ : Int} : ∀ (n : Nat) (k : Int), ∀ x ∈ alv S at_ n k, k ≤ x := fun n k x hx => ((alv_mem n k x).mp hx).1
theorem any_tw {at_ : Int} {P : Int → Bool} {r : Int} : ∀ (n : Nat) (k : Int), k ≤ r → r < k + n → S (at_ + r) = 1 → ((alv S at_ n k).takeWhile (fun x => decide (x ≠ r))).any P = anyF (fun q => decide (S (at_ + q) = 1) && P q) (r - k).toNat k
  | 0, k, h1, h2, _ => by omega
  | n + 1, k, h1, h2, h3 => by
    by_cases hk : k = r
    · subst hk
      simp [alv, h3, anyF]
    · have ih := any_tw (P := P) n (k + 1) (by omega) (by omega) h3
      rw [show (r - k).toNat = (r - (k + 1)).toNat + 1 by omega]
      simp only [alv, anyF]
      rw [← ih]
      by_cases e : S (at_ + k) = 1
      · simp [e, hk]
      · simp [e]
def twP (S : Int → Int) (r k x : Int) : Bool := decide (S (249 + x) = S (249 + r)) && likeC (cellS S x) (S (46 + k)) (S (52 + k)) (cellS S r) (S (46 + k)) (S (52 + k))
theorem tw_loop (W : StW S) (hF : Fzn F H) {l : List Value} {ins on : Int} {ar : Nat} {v1 v2 v3 : Value} {cap : Nat} {mc : Int32} (h1 : jm H a = some (4, 7, o4 (.ref q) ins on (.ref ar) v1 v2 v3)) (h2 : jm H ar = some (cAL cap mc l)) (h3 : cap < 1000) (h4 : RowsF F l S 150 348 ra)
    (r0 : 0 ≤ r) (r1 : r < 99) (r2 : S (150 + r) = 1) {kb : Nat} (hk : KeyF F kb k S) (k0 : 0 ≤ k) (k1 : k < S 1) : ∀ (s : List Int) (n : Nat) (v4 : Value), (alv S 150 99 0).drop n = s → n ≤ (alv S 150 99 0).length →
    G2 (d + 1) 4007 26 [.ref a, .ref (ra r), .ref kb, .int (zI n), v4] [] H = some (.inl (some (bI ((s.takeWhile (fun x => decide (x ≠ r))).any (twP S r k)))), H) := by
  have hl := rows_len h4
  have hle := alv_le W
  have hsz := h_size (d := d) h2
  obtain ⟨K1, K2, K3, K4, K5⟩ := W.1.2.2.1 _ k0 k1
  have C2 := W.co K1.1 (by have := W.n0.1; omega)
  have N0 := W.n0
  obtain ⟨ke, w1, w2⟩ := hk
  have w1' := hF.m w1
  have hb : RowF F (ra r) r (S (249 + r)) (cellS S r) := h4.2 r r0 r1 r2
  obtain ⟨be, bg, b1, b2, b3⟩ := id hb
  have b1' := hF.m b1
  have TR := W.ta r0 r1
  intro s
  induction s with
  | nil =>
    intro n v4 hn hnl
    have : (alv S 150 99 0).length ≤ n := by
      have := congrArg List.length hn
      simp at this
      omega
    rw [F4007_26]
    simp (disch := first | assumption | omega | decide | exact okF_i | exact okF_r | exact okF_n | exact okF_j | rfl) only [jc_ref, rI_int, rR_ref, rR_null, rJ_long, ckR_ref, ckR_null, ckr_ref, ckr_null, ckW_int, ckW_ref, ckW_null, cI_ok, cR_ok, cR_null, cV_ok, cJ_ok, qH_eq, qD_in, aG_ref, aS_ref, aL_ref, pF_ref, cK_ref, cK_null, zI_lit, zJ_lit, zI_add, zI_sub, zI_mul, zI_neg, zI_eq, zI_lt, zI_le, Int.reduceLT, Int.reduceLE, Int.reduceAdd, Int.reduceSub, Int.reduceMul, Int.reduceNeg, Int.reduceEq, Int.reduceNe, reduceIte, jf_in, pFc_in, aGi, aGb, aSi, aLc_in, cKc_in, nA_in, jm_s1, jm_s2, jm_p1, jm_p2, jm_b, jn_b, jn_s, jn_p, jset_jset, jset_jpush2, ckR_is, ckr_is, rR_is, ckW_is, cR_is, obi2, ckW_int, eq_self, if_true, ref_null, if_false, ne_eq, not_true_eq_false, not_false_eq_true, decide_true, decide_false, decide_not, Bool.true_and, Bool.false_and, Bool.and_true, Bool.and_false, Bool.true_or, Bool.false_or, Bool.or_true, Bool.or_false, Bool.not_true, Bool.not_false, Bool.false_eq_true, bI_t, bI_f, Int.natCast_one, Int.cast_ofNat_Int, Int.natCast_zero, o23_0, o23_1, o23_2, o12_0, o12_1, o13_0, o13_1, o13_2, o13_3, o13_4, o13_5, o13_6, o14_0, o14_1, o14_2, o14_3, o14_4, o14_5, o3_0, o3_1, o3_2, o3_3, o3_4, o11_0, o11_1, o11_2, o11_3, o4_0, o4_1, o4_2, o4_3, o4_4, o4_5, o4_6, h1, hsz]
    rw [if_pos (by omega)]
    rfl
  | cons x s ih =>
    intro n v4 hn hnl
    obtain ⟨e1, e2, e3, e4, x0, x1, x2⟩ := rows_at h4 rfl hn
    have ih' := ih (n + 1) (.ref (ra x)) e3 (by omega)
    have hg := h_get (d := d) (i := n) h2 (by omega) (by omega) (by omega) (by omega)
    rw [Int.toNat_natCast, e1] at hg
    have TA := W.ta x0 x1
    have e2' := e2
    obtain ⟨xe, xg, m1, m2, m3⟩ := e2
    have m1' := hF.m m1
    have lk := c_isLike (d := d) hF e2' w2 hb w2 (W.csw x0 x1) (W.csw r0 r1) K2.1 (by omega) K3 (by omega) K2.1 (by omega) K3 (by omega) Iff.rfl
    have hTW : ((x :: s).takeWhile (fun x => decide (x ≠ r))).any (twP S r k) = if x = r then false else (twP S r k x || (s.takeWhile (fun x => decide (x ≠ r))).any (twP S r k)) := by
      by_cases hxr : x = r
      · simp [hxr]
      · simp [hxr]
    rw [F4007_26, hTW]
    generalize ((s.takeWhile (fun x => decide (x ≠ r))).any (twP S r k)) = rest at ih' ⊢
    simp (disch := first | assumption | omega | decide | exact okF_i | exact okF_r | exact okF_n | exact okF_j | rfl) only [jc_ref, rI_int, rR_ref, rR_null, rJ_long, ckR_ref, ckR_null, ckr_ref, ckr_null, ckW_int, ckW_ref, ckW_null, cI_ok, cR_ok, cR_null, cV_ok, cJ_ok, qH_eq, qD_in, aG_ref, aS_ref, aL_ref, pF_ref, cK_ref, cK_null, zI_lit, zJ_lit, zI_add, zI_sub, zI_mul, zI_neg, zI_eq, zI_lt, zI_le, Int.reduceLT, Int.reduceLE, Int.reduceAdd, Int.reduceSub, Int.reduceMul, Int.reduceNeg, Int.reduceEq, Int.reduceNe, reduceIte, jf_in, pFc_in, aGi, aGb, aSi, aLc_in, cKc_in, nA_in, jm_s1, jm_s2, jm_p1, jm_p2, jm_b, jn_b, jn_s, jn_p, jset_jset, jset_jpush2, ckR_is, ckr_is, rR_is, ckW_is, cR_is, obi2, ckW_int, eq_self, if_true, ref_null, if_false, ne_eq, not_true_eq_false, not_false_eq_true, decide_true, decide_false, decide_not, Bool.true_and, Bool.false_and, Bool.and_true, Bool.and_false, Bool.true_or, Bool.false_or, Bool.or_true, Bool.or_false, Bool.not_true, Bool.not_false, Bool.false_eq_true, bI_t, bI_f, Int.natCast_one, Int.cast_ofNat_Int, Int.natCast_zero, o23_0, o23_1, o23_2, o12_0, o12_1, o13_0, o13_1, o13_2, o13_3, o13_4, o13_5, o13_6, o14_0, o14_1, o14_2, o14_3, o14_4, o14_5, o3_0, o3_1, o3_2, o3_3, o3_4, o11_0, o11_1, o11_2, o11_3, o4_0, o4_1, o4_2, o4_3, o4_4, o4_5, o4_6, h1, hsz, hg, m1', b1', ref_eq]
    rw [if_neg (by omega)]
    by_cases hxr : x = r
    · have : ra x = ra r := by rw [hxr]
      rw [if_pos this, if_pos hxr]
      rfl
    · have hne : ¬ ra x = ra r := fun z => hxr (rows_inj h4 x0 x1 x2 r0 r1 r2 z)
      rw [if_neg hne, if_neg hxr]
      have hP : twP S r k x = (decide (S (249 + x) = S (249 + r)) && likeC (cellS S x) (S (46 + k)) (S (52 + k)) (cellS S r) (S (46 + k)) (S (52 + k))) := rfl
      rw [hP]
      by_cases t1 : S (249 + x) = S (249 + r)
      · rw [if_pos t1, decide_eq_true t1, Bool.true_and]
        cases hq : likeC (cellS S x) (S (46 + k)) (S (52 + k)) (cellS S r) (S (46 + k)) (S (52 + k)) with
        | true =>
          rw [hq] at lk
          simp (disch := first | assumption | omega | decide | exact okF_i | exact okF_r | exact okF_n | exact okF_j | rfl) only [jc_ref, rI_int, rR_ref, rR_null, rJ_long, ckR_ref, ckR_null, ckr_ref, ckr_null, ckW_int, ckW_ref, ckW_null, cI_ok, cR_ok, cR_null, cV_ok, cJ_ok, qH_eq, qD_in, aG_ref, aS_ref, aL_ref, pF_ref, cK_ref, cK_null, zI_lit, zJ_lit, zI_add, zI_sub, zI_mul, zI_neg, zI_eq, zI_lt, zI_le, Int.reduceLT, Int.reduceLE, Int.reduceAdd, Int.reduceSub, Int.reduceMul, Int.reduceNeg, Int.reduceEq, Int.reduceNe, reduceIte, jf_in, pFc_in, aGi, aGb, aSi, aLc_in, cKc_in, nA_in, jm_s1, jm_s2, jm_p1, jm_p2, jm_b, jn_b, jn_s, jn_p, jset_jset, jset_jpush2, ckR_is, ckr_is, rR_is, ckW_is, cR_is, obi2, ckW_int, eq_self, if_true, ref_null, if_false, ne_eq, not_true_eq_false, not_false_eq_true, decide_true, decide_false, decide_not, Bool.true_and, Bool.false_and, Bool.and_true, Bool.and_false, Bool.true_or, Bool.false_or, Bool.or_true, Bool.or_false, Bool.not_true, Bool.not_false, Bool.false_eq_true, bI_t, bI_f, Int.natCast_one, Int.cast_ofNat_Int, Int.natCast_zero, o23_0, o23_1, o23_2, o12_0, o12_1, o13_0, o13_1, o13_2, o13_3, o13_4, o13_5, o13_6, o14_0, o14_1, o14_2, o14_3, o14_4, o14_5, o3_0, o3_1, o3_2, o3_3, o3_4, o11_0, o11_1, o11_2, o11_3, o4_0, o4_1, o4_2, o4_3, o4_4, o4_5, o4_6, w1', lk]
        | false =>
          rw [hq] at lk
          simp (disch := first | assumption | omega | decide | exact okF_i | exact okF_r | exact okF_n | exact okF_j | rfl) only [jc_ref, rI_int, rR_ref, rR_null, rJ_long, ckR_ref, ckR_null, ckr_ref, ckr_null, ckW_int, ckW_ref, ckW_null, cI_ok, cR_ok, cR_null, cV_ok, cJ_ok, qH_eq, qD_in, aG_ref, aS_ref, aL_ref, pF_ref, cK_ref, cK_null, zI_lit, zJ_lit, zI_add, zI_sub, zI_mul, zI_neg, zI_eq, zI_lt, zI_le, Int.reduceLT, Int.reduceLE, Int.reduceAdd, Int.reduceSub, Int.reduceMul, Int.reduceNeg, Int.reduceEq, Int.reduceNe, reduceIte, jf_in, pFc_in, aGi, aGb, aSi, aLc_in, cKc_in, nA_in, jm_s1, jm_s2, jm_p1, jm_p2, jm_b, jn_b, jn_s, jn_p, jset_jset, jset_jpush2, ckR_is, ckr_is, rR_is, ckW_is, cR_is, obi2, ckW_int, eq_self, if_true, ref_null, if_false, ne_eq, not_true_eq_false, not_false_eq_true, decide_true, decide_false, decide_not, Bool.true_and, Bool.false_and, Bool.and_true, Bool.and_false, Bool.true_or, Bool.false_or, Bool.or_true, Bool.or_false, Bool.not_true, Bool.not_false, Bool.false_eq_true, bI_t, bI_f, Int.natCast_one, Int.cast_ofNat_Int, Int.natCast_zero, o23_0, o23_1, o23_2, o12_0, o12_1, o13_0, o13_1, o13_2, o13_3, o13_4, o13_5, o13_6, o14_0, o14_1, o14_2, o14_3, o14_4, o14_5, o3_0, o3_1, o3_2, o3_3, o3_4, o11_0, o11_1, o11_2, o11_3, o4_0, o4_1, o4_2, o4_3, o4_4, o4_5, o4_6, w1', lk]
          exact ih'
      · rw [if_neg t1, decide_eq_false t1, Bool.false_and, Bool.false_or]
        exact ih'
theorem c_twice (W : StW S) (hF : Fzn F H) (hQ : StoQ F H a q S ra) (r0 : 0 ≤ r) (r1 : r < 99) (r2 : S (150 + r) = 1) {kb : Nat} (hk : KeyF F kb k S) (k0 : 0 ≤ k) (k1 : k < S 1) :
    M2 (d + 2) 4007 [.ref a, .ref (ra r), .ref kb] H = some (.inl (some (bI (decide (S (249 + r) = S (40 + k)) && earlS S r k))), H) := by
  obtain ⟨ins, on, ar, v1, v2, v3, cap, mc, l, h1, h2, h3, h4, -⟩ := hQ
  obtain ⟨K1, K2, K3, K4, K5⟩ := W.1.2.2.1 _ k0 k1
  have C2 := W.co K1.1 (by have := W.n0.1; omega)
  have N0 := W.n0
  have lp := tw_loop (d := d) W hF h1 h2 h3 h4 r0 r1 r2 hk k0 k1 _ 0 jno rfl (Nat.zero_le _)
  obtain ⟨ke, w1, w2⟩ := hk
  have w1' := hF.m w1
  have hb : RowF F (ra r) r (S (249 + r)) (cellS S r) := h4.2 r r0 r1 r2
  obtain ⟨be, bg, b1, b2, b3⟩ := id hb
  have b1' := hF.m b1
  have TR := W.ta r0 r1
  have ha := c_hasAll (d := d) hF hb w2 (W.csw r0 r1) K2.1 (by omega) K3 (by omega)
  have cw := W.csw r0 r1
  have z1 := cw _ K2.1 (by omega)
  rw [Y4007 H rfl rfl (jrecv_in h1 rfl), F4007_0]
  simp (disch := first | assumption | omega | decide | exact okF_i | exact okF_r | exact okF_n | exact okF_j | rfl) only [jc_ref, rI_int, rR_ref, rR_null, rJ_long, ckR_ref, ckR_null, ckr_ref, ckr_null, ckW_int, ckW_ref, ckW_null, cI_ok, cR_ok, cR_null, cV_ok, cJ_ok, qH_eq, qD_in, aG_ref, aS_ref, aL_ref, pF_ref, cK_ref, cK_null, zI_lit, zJ_lit, zI_add, zI_sub, zI_mul, zI_neg, zI_eq, zI_lt, zI_le, Int.reduceLT, Int.reduceLE, Int.reduceAdd, Int.reduceSub, Int.reduceMul, Int.reduceNeg, Int.reduceEq, Int.reduceNe, reduceIte, jf_in, pFc_in, aGi, aGb, aSi, aLc_in, cKc_in, nA_in, jm_s1, jm_s2, jm_p1, jm_p2, jm_b, jn_b, jn_s, jn_p, jset_jset, jset_jpush2, ckR_is, ckr_is, rR_is, ckW_is, cR_is, obi2, ckW_int, eq_self, if_true, ref_null, if_false, ne_eq, not_true_eq_false, not_false_eq_true, decide_true, decide_false, decide_not, Bool.true_and, Bool.false_and, Bool.and_true, Bool.and_false, Bool.true_or, Bool.false_or, Bool.or_true, Bool.or_false, Bool.not_true, Bool.not_false, Bool.false_eq_true, bI_t, bI_f, Int.natCast_one, Int.cast_ofNat_Int, Int.natCast_zero, o23_0, o23_1, o23_2, o12_0, o12_1, o13_0, o13_1, o13_2, o13_3, o13_4, o13_5, o13_6, o14_0, o14_1, o14_2, o14_3, o14_4, o14_5, o3_0, o3_1, o3_2, o3_3, o3_4, o11_0, o11_1, o11_2, o11_3, o4_0, o4_1, o4_2, o4_3, o4_4, o4_5, o4_6, b1', w1']
  by_cases t1 : S (249 + r) = S (40 + k)
  · rw [if_pos t1, decide_eq_true t1, Bool.true_and]
    have hE : earlS S r k = (allC (cellS S r) (S (46 + k)) (S (52 + k)) && ((alv S 150 99 0).takeWhile (fun x => decide (x ≠ r))).any (twP S r k)) := by
      rw [any_tw 99 0 r0 (by omega) r2, Int.sub_zero]
      unfold earlS allC
      have hP : ∀ x, (decide (S (150 + x) = 1) && twP S r k x) = (rowOf S x (S (40 + k)) && hasKeyS S x k (cellS S r (S (46 + k))) (if S (52 + k) < 0 then 0 else cellS S r (S (52 + k)))) := fun x => by
        unfold twP rowOf hasKeyS likeC
        rw [t1, Bool.and_assoc]
        by_cases h2 : S (52 + k) < 0
        · simp only [h2, decide_true, Bool.true_or, Bool.and_true]
        · simp only [h2, decide_false, Bool.false_or, if_false]
      rw [funext hP]
      by_cases h2 : S (52 + k) < 0
      · have x1 : decide (0 ≤ cellS S r (S (46 + k))) = decide (cellS S r (S (46 + k)) ≠ -1) := decide_eq_decide.mpr (by omega)
        simp only [h2, if_true, decide_true, Bool.true_or, Bool.and_true, x1, Int.le_refl, Bool.true_and]
      · have z2 := cw (S (52 + k)) (by omega) (by omega)
        have x1 : decide (0 ≤ cellS S r (S (46 + k))) = decide (cellS S r (S (46 + k)) ≠ -1) := decide_eq_decide.mpr (by omega)
        have x2 : decide (0 ≤ cellS S r (S (52 + k))) = decide (cellS S r (S (52 + k)) ≠ -1) := decide_eq_decide.mpr (by omega)
        simp only [h2, if_false, decide_false, Bool.false_or, x1, x2, Bool.and_assoc]
    rw [hE]
    cases q1 : allC (cellS S r) (S (46 + k)) (S (52 + k)) with
    | false =>
      rw [q1] at ha
      simp (disch := first | assumption | omega | decide | exact okF_i | exact okF_r | exact okF_n | exact okF_j | rfl) only [jc_ref, rI_int, rR_ref, rR_null, rJ_long, ckR_ref, ckR_null, ckr_ref, ckr_null, ckW_int, ckW_ref, ckW_null, cI_ok, cR_ok, cR_null, cV_ok, cJ_ok, qH_eq, qD_in, aG_ref, aS_ref, aL_ref, pF_ref, cK_ref, cK_null, zI_lit, zJ_lit, zI_add, zI_sub, zI_mul, zI_neg, zI_eq, zI_lt, zI_le, Int.reduceLT, Int.reduceLE, Int.reduceAdd, Int.reduceSub, Int.reduceMul, Int.reduceNeg, Int.reduceEq, Int.reduceNe, reduceIte, jf_in, pFc_in, aGi, aGb, aSi, aLc_in, cKc_in, nA_in, jm_s1, jm_s2, jm_p1, jm_p2, jm_b, jn_b, jn_s, jn_p, jset_jset, jset_jpush2, ckR_is, ckr_is, rR_is, ckW_is, cR_is, obi2, ckW_int, eq_self, if_true, ref_null, if_false, ne_eq, not_true_eq_false, not_false_eq_true, decide_true, decide_false, decide_not, Bool.true_and, Bool.false_and, Bool.and_true, Bool.and_false, Bool.true_or, Bool.false_or, Bool.or_true, Bool.or_false, Bool.not_true, Bool.not_false, Bool.false_eq_true, bI_t, bI_f, Int.natCast_one, Int.cast_ofNat_Int, Int.natCast_zero, o23_0, o23_1, o23_2, o12_0, o12_1, o13_0, o13_1, o13_2, o13_3, o13_4, o13_5, o13_6, o14_0, o14_1, o14_2, o14_3, o14_4, o14_5, o3_0, o3_1, o3_2, o3_3, o3_4, o11_0, o11_1, o11_2, o11_3, o4_0, o4_1, o4_2, o4_3, o4_4, o4_5, o4_6, ha]
    | true =>
      rw [q1] at ha
      simp (disch := first | assumption | omega | decide | exact okF_i | exact okF_r | exact okF_n | exact okF_j | rfl) only [jc_ref, rI_int, rR_ref, rR_null, rJ_long, ckR_ref, ckR_null, ckr_ref, ckr_null, ckW_int, ckW_ref, ckW_null, cI_ok, cR_ok, cR_null, cV_ok, cJ_ok, qH_eq, qD_in, aG_ref, aS_ref, aL_ref, pF_ref, cK_ref, cK_null, zI_lit, zJ_lit, zI_add, zI_sub, zI_mul, zI_neg, zI_eq, zI_lt, zI_le, Int.reduceLT, Int.reduceLE, Int.reduceAdd, Int.reduceSub, Int.reduceMul, Int.reduceNeg, Int.reduceEq, Int.reduceNe, reduceIte, jf_in, pFc_in, aGi, aGb, aSi, aLc_in, cKc_in, nA_in, jm_s1, jm_s2, jm_p1, jm_p2, jm_b, jn_b, jn_s, jn_p, jset_jset, jset_jpush2, ckR_is, ckr_is, rR_is, ckW_is, cR_is, obi2, ckW_int, eq_self, if_true, ref_null, if_false, ne_eq, not_true_eq_false, not_false_eq_true, decide_true, decide_false, decide_not, Bool.true_and, Bool.false_and, Bool.and_true, Bool.and_false, Bool.true_or, Bool.false_or, Bool.or_true, Bool.or_false, Bool.not_true, Bool.not_false, Bool.false_eq_true, bI_t, bI_f, Int.natCast_one, Int.cast_ofNat_Int, Int.natCast_zero, o23_0, o23_1, o23_2, o12_0, o12_1, o13_0, o13_1, o13_2, o13_3, o13_4, o13_5, o13_6, o14_0, o14_1, o14_2, o14_3, o14_4, o14_5, o3_0, o3_1, o3_2, o3_3, o3_4, o11_0, o11_1, o11_2, o11_3, o4_0, o4_1, o4_2, o4_3, o4_4, o4_5, o4_6, ha]
      simpa only [ne_eq, decide_not, List.drop_zero, Int.natCast_zero] using lp
  · rw [if_neg t1, decide_eq_false t1, Bool.false_and]
    rfl
theorem c_broken (W : StW S) (hF : Fzn F H) (hS : SchF F q S nm) (hQ : StoQ F H a q S ra) (r0 : 0 ≤ r) (r1 : r < 99) (hb : RowF F b r (S (249 + r)) (cellS S r)) (hf : RefF F fb f S) (f0 : 0 ≤ f) (f1 : f < S 2) :
    M2 (d + 4) 4006 [.ref a, .ref b, .ref fb] H = some (.inl (some (bI (decide (S (249 + r) = S (58 + f)) && badRefS S r f))), H) := by
  have pr := c_parent (d := d) W hF hS hQ hb r0 r1 hf f0 f1
  obtain ⟨ins, on, ar, v1, v2, v3, cap, mc, l, h1, h2, h3, h4, -⟩ := hQ
  obtain ⟨R1, R2, R3, R4, ⟨R5, R6, R7, R8⟩, -, -, RF, RL⟩ := W.1.2.2.2.1 f f0 f1
  have C1 := W.co R1.1 (by have := W.n0.1; omega)
  have N0 := W.n0
  have TA := W.ta r0 r1
  obtain ⟨fe, y1, y2⟩ := id hf
  obtain ⟨be, bg, m1, m2, m3⟩ := id hb
  have y1' := hF.m y1; have m1' := hF.m m1
  have ha := c_hasAll (d := d + 2) hF hb y2 (W.csw r0 r1) R2.1 (by omega) R3.1 (by omega)
  have hn := c_hasNone (d := d + 2) hF hb y2 (W.csw r0 r1) R2.1 (by omega) R3.1 (by omega)
  have cw := W.csw r0 r1
  have z1 := cw _ R2.1 (by omega)
  have tg := tgt_rg (S := S) (r := r) (f := f)
  rw [Y4006 H rfl rfl (jrecv_in h1 rfl), F4006_0]
  simp (disch := first | assumption | omega | decide | exact okF_i | exact okF_r | exact okF_n | exact okF_j | rfl) only [jc_ref, rI_int, rR_ref, rR_null, rJ_long, ckR_ref, ckR_null, ckr_ref, ckr_null, ckW_int, ckW_ref, ckW_null, cI_ok, cR_ok, cR_null, cV_ok, cJ_ok, qH_eq, qD_in, aG_ref, aS_ref, aL_ref, pF_ref, cK_ref, cK_null, zI_lit, zJ_lit, zI_add, zI_sub, zI_mul, zI_neg, zI_eq, zI_lt, zI_le, Int.reduceLT, Int.reduceLE, Int.reduceAdd, Int.reduceSub, Int.reduceMul, Int.reduceNeg, Int.reduceEq, Int.reduceNe, reduceIte, jf_in, pFc_in, aGi, aGb, aSi, aLc_in, cKc_in, nA_in, jm_s1, jm_s2, jm_p1, jm_p2, jm_b, jn_b, jn_s, jn_p, jset_jset, jset_jpush2, ckR_is, ckr_is, rR_is, ckW_is, cR_is, obi2, ckW_int, eq_self, if_true, ref_null, if_false, ne_eq, not_true_eq_false, not_false_eq_true, decide_true, decide_false, decide_not, Bool.true_and, Bool.false_and, Bool.and_true, Bool.and_false, Bool.true_or, Bool.false_or, Bool.or_true, Bool.or_false, Bool.not_true, Bool.not_false, Bool.false_eq_true, bI_t, bI_f, Int.natCast_one, Int.cast_ofNat_Int, Int.natCast_zero, o23_0, o23_1, o23_2, o12_0, o12_1, o13_0, o13_1, o13_2, o13_3, o13_4, o13_5, o13_6, o14_0, o14_1, o14_2, o14_3, o14_4, o14_5, o3_0, o3_1, o3_2, o3_3, o3_4, o11_0, o11_1, o11_2, o11_3, o4_0, o4_1, o4_2, o4_3, o4_4, o4_5, o4_6, m1', y1']
  by_cases t1 : S (249 + r) = S (58 + f)
  · rw [if_pos t1, decide_eq_true t1, Bool.true_and]
    rw [if_pos t1] at pr
    unfold badRefS
    have hA : (0 ≤ cellS S r (S (64 + f)) ∧ (S (70 + f) < 0 ∨ 0 ≤ cellS S r (S (70 + f)))) ↔ allC (cellS S r) (S (64 + f)) (S (70 + f)) = true := by
      unfold allC
      by_cases h2 : S (70 + f) < 0
      · simp only [h2, decide_true, Bool.true_or, Bool.and_true, decide_eq_true_eq, ne_eq, true_or, and_true]
        omega
      · have z2 := cw (S (70 + f)) (by omega) (by omega)
        simp only [h2, decide_false, Bool.false_or, Bool.and_eq_true, decide_eq_true_eq, ne_eq, false_or]
        omega
    cases q1 : allC (cellS S r) (S (64 + f)) (S (70 + f)) with
    | true =>
      rw [q1] at ha
      rw [if_pos (hA.mpr q1)]
      by_cases h5 : tgtS S r f < 0
      · have : prV ra (tgtS S r f) = .null := by unfold prV; rw [if_pos h5]
        rw [this] at pr
        simp (disch := first | assumption | omega | decide | exact okF_i | exact okF_r | exact okF_n | exact okF_j | rfl) only [jc_ref, rI_int, rR_ref, rR_null, rJ_long, ckR_ref, ckR_null, ckr_ref, ckr_null, ckW_int, ckW_ref, ckW_null, cI_ok, cR_ok, cR_null, cV_ok, cJ_ok, qH_eq, qD_in, aG_ref, aS_ref, aL_ref, pF_ref, cK_ref, cK_null, zI_lit, zJ_lit, zI_add, zI_sub, zI_mul, zI_neg, zI_eq, zI_lt, zI_le, Int.reduceLT, Int.reduceLE, Int.reduceAdd, Int.reduceSub, Int.reduceMul, Int.reduceNeg, Int.reduceEq, Int.reduceNe, reduceIte, jf_in, pFc_in, aGi, aGb, aSi, aLc_in, cKc_in, nA_in, jm_s1, jm_s2, jm_p1, jm_p2, jm_b, jn_b, jn_s, jn_p, jset_jset, jset_jpush2, ckR_is, ckr_is, rR_is, ckW_is, cR_is, obi2, ckW_int, eq_self, if_true, ref_null, if_false, ne_eq, not_true_eq_false, not_false_eq_true, decide_true, decide_false, decide_not, Bool.true_and, Bool.false_and, Bool.and_true, Bool.and_false, Bool.true_or, Bool.false_or, Bool.or_true, Bool.or_false, Bool.not_true, Bool.not_false, Bool.false_eq_true, bI_t, bI_f, Int.natCast_one, Int.cast_ofNat_Int, Int.natCast_zero, o23_0, o23_1, o23_2, o12_0, o12_1, o13_0, o13_1, o13_2, o13_3, o13_4, o13_5, o13_6, o14_0, o14_1, o14_2, o14_3, o14_4, o14_5, o3_0, o3_1, o3_2, o3_3, o3_4, o11_0, o11_1, o11_2, o11_3, o4_0, o4_1, o4_2, o4_3, o4_4, o4_5, o4_6, ha, pr, h5]
      · have : prV ra (tgtS S r f) = .ref (ra (tgtS S r f)) := by unfold prV; rw [if_neg h5]
        rw [this] at pr
        simp (disch := first | assumption | omega | decide | exact okF_i | exact okF_r | exact okF_n | exact okF_j | rfl) only [jc_ref, rI_int, rR_ref, rR_null, rJ_long, ckR_ref, ckR_null, ckr_ref, ckr_null, ckW_int, ckW_ref, ckW_null, cI_ok, cR_ok, cR_null, cV_ok, cJ_ok, qH_eq, qD_in, aG_ref, aS_ref, aL_ref, pF_ref, cK_ref, cK_null, zI_lit, zJ_lit, zI_add, zI_sub, zI_mul, zI_neg, zI_eq, zI_lt, zI_le, Int.reduceLT, Int.reduceLE, Int.reduceAdd, Int.reduceSub, Int.reduceMul, Int.reduceNeg, Int.reduceEq, Int.reduceNe, reduceIte, jf_in, pFc_in, aGi, aGb, aSi, aLc_in, cKc_in, nA_in, jm_s1, jm_s2, jm_p1, jm_p2, jm_b, jn_b, jn_s, jn_p, jset_jset, jset_jpush2, ckR_is, ckr_is, rR_is, ckW_is, cR_is, obi2, ckW_int, eq_self, if_true, ref_null, if_false, ne_eq, not_true_eq_false, not_false_eq_true, decide_true, decide_false, decide_not, Bool.true_and, Bool.false_and, Bool.and_true, Bool.and_false, Bool.true_or, Bool.false_or, Bool.or_true, Bool.or_false, Bool.not_true, Bool.not_false, Bool.false_eq_true, bI_t, bI_f, Int.natCast_one, Int.cast_ofNat_Int, Int.natCast_zero, o23_0, o23_1, o23_2, o12_0, o12_1, o13_0, o13_1, o13_2, o13_3, o13_4, o13_5, o13_6, o14_0, o14_1, o14_2, o14_3, o14_4, o14_5, o3_0, o3_1, o3_2, o3_3, o3_4, o11_0, o11_1, o11_2, o11_3, o4_0, o4_1, o4_2, o4_3, o4_4, o4_5, o4_6, ha, pr, h5]
    | false =>
      rw [q1] at ha
      rw [if_neg (fun z => by rw [hA.mp z] at q1; cases q1)]
      have hN : noneC (cellS S r) (S (64 + f)) (S (70 + f)) = (decide (0 ≤ cellS S r (S (64 + f))) == (if S (70 + f) < 0 then decide (0 ≤ cellS S r (S (64 + f))) else decide (0 ≤ cellS S r (S (70 + f))))) := by
        unfold noneC
        unfold allC at q1
        by_cases h2 : S (70 + f) < 0
        · simp only [h2, if_true, decide_true, Bool.true_or, Bool.and_true, beq_self_eq_true] at q1 ⊢
          simp only [decide_eq_false_iff_not, ne_eq, Decidable.not_not] at q1
          exact decide_eq_true q1
        · have z2 := cw (S (70 + f)) (by omega) (by omega)
          simp only [h2, if_false, decide_false, Bool.false_or] at q1 ⊢
          by_cases c1 : cellS S r (S (64 + f)) = -1
          · by_cases c2 : cellS S r (S (70 + f)) = -1
            · rw [c1, c2]; rfl
            · rw [c1, decide_eq_false c2, decide_eq_true (show 0 ≤ cellS S r (S (70 + f)) by omega)]; rfl
          · by_cases c2 : cellS S r (S (70 + f)) = -1
            · rw [c2, decide_eq_false c1, decide_eq_true (show 0 ≤ cellS S r (S (64 + f)) by omega)]; rfl
            · rw [decide_eq_true (show cellS S r (S (64 + f)) ≠ -1 from c1), decide_eq_true (show cellS S r (S (70 + f)) ≠ -1 from c2)] at q1
              cases q1
      rw [← hN]
      by_cases h5 : S (100 + f) = 1
      · cases q2 : noneC (cellS S r) (S (64 + f)) (S (70 + f)) with
        | true =>
          rw [q2] at hn
          simp (disch := first | assumption | omega | decide | exact okF_i | exact okF_r | exact okF_n | exact okF_j | rfl) only [jc_ref, rI_int, rR_ref, rR_null, rJ_long, ckR_ref, ckR_null, ckr_ref, ckr_null, ckW_int, ckW_ref, ckW_null, cI_ok, cR_ok, cR_null, cV_ok, cJ_ok, qH_eq, qD_in, aG_ref, aS_ref, aL_ref, pF_ref, cK_ref, cK_null, zI_lit, zJ_lit, zI_add, zI_sub, zI_mul, zI_neg, zI_eq, zI_lt, zI_le, Int.reduceLT, Int.reduceLE, Int.reduceAdd, Int.reduceSub, Int.reduceMul, Int.reduceNeg, Int.reduceEq, Int.reduceNe, reduceIte, jf_in, pFc_in, aGi, aGb, aSi, aLc_in, cKc_in, nA_in, jm_s1, jm_s2, jm_p1, jm_p2, jm_b, jn_b, jn_s, jn_p, jset_jset, jset_jpush2, ckR_is, ckr_is, rR_is, ckW_is, cR_is, obi2, ckW_int, eq_self, if_true, ref_null, if_false, ne_eq, not_true_eq_false, not_false_eq_true, decide_true, decide_false, decide_not, Bool.true_and, Bool.false_and, Bool.and_true, Bool.and_false, Bool.true_or, Bool.false_or, Bool.or_true, Bool.or_false, Bool.not_true, Bool.not_false, Bool.false_eq_true, bI_t, bI_f, Int.natCast_one, Int.cast_ofNat_Int, Int.natCast_zero, o23_0, o23_1, o23_2, o12_0, o12_1, o13_0, o13_1, o13_2, o13_3, o13_4, o13_5, o13_6, o14_0, o14_1, o14_2, o14_3, o14_4, o14_5, o3_0, o3_1, o3_2, o3_3, o3_4, o11_0, o11_1, o11_2, o11_3, o4_0, o4_1, o4_2, o4_3, o4_4, o4_5, o4_6, ha, hn, h5, y1']
        | false =>
          rw [q2] at hn
          simp (disch := first | assumption | omega | decide | exact okF_i | exact okF_r | exact okF_n | exact okF_j | rfl) only [jc_ref, rI_int, rR_ref, rR_null, rJ_long, ckR_ref, ckR_null, ckr_ref, ckr_null, ckW_int, ckW_ref, ckW_null, cI_ok, cR_ok, cR_null, cV_ok, cJ_ok, qH_eq, qD_in, aG_ref, aS_ref, aL_ref, pF_ref, cK_ref, cK_null, zI_lit, zJ_lit, zI_add, zI_sub, zI_mul, zI_neg, zI_eq, zI_lt, zI_le, Int.reduceLT, Int.reduceLE, Int.reduceAdd, Int.reduceSub, Int.reduceMul, Int.reduceNeg, Int.reduceEq, Int.reduceNe, reduceIte, jf_in, pFc_in, aGi, aGb, aSi, aLc_in, cKc_in, nA_in, jm_s1, jm_s2, jm_p1, jm_p2, jm_b, jn_b, jn_s, jn_p, jset_jset, jset_jpush2, ckR_is, ckr_is, rR_is, ckW_is, cR_is, obi2, ckW_int, eq_self, if_true, ref_null, if_false, ne_eq, not_true_eq_false, not_false_eq_true, decide_true, decide_false, decide_not, Bool.true_and, Bool.false_and, Bool.and_true, Bool.and_false, Bool.true_or, Bool.false_or, Bool.or_true, Bool.or_false, Bool.not_true, Bool.not_false, Bool.false_eq_true, bI_t, bI_f, Int.natCast_one, Int.cast_ofNat_Int, Int.natCast_zero, o23_0, o23_1, o23_2, o12_0, o12_1, o13_0, o13_1, o13_2, o13_3, o13_4, o13_5, o13_6, o14_0, o14_1, o14_2, o14_3, o14_4, o14_5, o3_0, o3_1, o3_2, o3_3, o3_4, o11_0, o11_1, o11_2, o11_3, o4_0, o4_1, o4_2, o4_3, o4_4, o4_5, o4_6, ha, hn, h5, y1']
      · have h6 : S (100 + f) = 0 := by omega
        simp (disch := first | assumption | omega | decide | exact okF_i | exact okF_r | exact okF_n | exact okF_j | rfl) only [jc_ref, rI_int, rR_ref, rR_null, rJ_long, ckR_ref, ckR_null, ckr_ref, ckr_null, ckW_int, ckW_ref, ckW_null, cI_ok, cR_ok, cR_null, cV_ok, cJ_ok, qH_eq, qD_in, aG_ref, aS_ref, aL_ref, pF_ref, cK_ref, cK_null, zI_lit, zJ_lit, zI_add, zI_sub, zI_mul, zI_neg, zI_eq, zI_lt, zI_le, Int.reduceLT, Int.reduceLE, Int.reduceAdd, Int.reduceSub, Int.reduceMul, Int.reduceNeg, Int.reduceEq, Int.reduceNe, reduceIte, jf_in, pFc_in, aGi, aGb, aSi, aLc_in, cKc_in, nA_in, jm_s1, jm_s2, jm_p1, jm_p2, jm_b, jn_b, jn_s, jn_p, jset_jset, jset_jpush2, ckR_is, ckr_is, rR_is, ckW_is, cR_is, obi2, ckW_int, eq_self, if_true, ref_null, if_false, ne_eq, not_true_eq_false, not_false_eq_true, decide_true, decide_false, decide_not, Bool.true_and, Bool.false_and, Bool.and_true, Bool.and_false, Bool.true_or, Bool.false_or, Bool.or_true, Bool.or_false, Bool.not_true, Bool.not_false, Bool.false_eq_true, bI_t, bI_f, Int.natCast_one, Int.cast_ofNat_Int, Int.natCast_zero, o23_0, o23_1, o23_2, o12_0, o12_1, o13_0, o13_1, o13_2, o13_3, o13_4, o13_5, o13_6, o14_0, o14_1, o14_2, o14_3, o14_4, o14_5, o3_0, o3_1, o3_2, o3_3, o3_4, o11_0, o11_1, o11_2, o11_3, o4_0, o4_1, o4_2, o4_3, o4_4, o4_5, o4_6, ha, h6, y1']
  · rw [if_neg t1, decide_eq_false t1, Bool.false_and]
    rfl
end
