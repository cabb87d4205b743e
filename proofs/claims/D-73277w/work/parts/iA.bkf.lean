/-! a longer list that is being made -/
-- jc_ref, rI_int, rR_ref, rR_null, rJ_long, ckR_ref, ckR_null, ckr_ref, ckr_null, ckW_int, ckW_ref, ckW_null, cI_ok, cR_ok, cR_null, cV_ok, cJ_ok, qH_eq, qD_in, aG_ref, aS_ref, aL_ref, pF_ref, cK_ref, cK_null, zI_lit, zJ_lit, zI_add, zI_sub, zI_mul, zI_neg, zI_eq, zI_lt, zI_le, Int.reduceLT, Int.reduceLE, Int.reduceAdd, Int.reduceSub, Int.reduceMul, Int.reduceNeg, Int.reduceEq, Int.reduceNe, reduceIte, jf_in, pFc_in, aGi, aGb, aSi, aLc_in, cKc_in, nA_in, jm_s1, jm_s2, jm_p1, jm_p2, jm_b, jn_b, jn_s, jn_p, jset_jset, jset_jpush2, ckR_is, ckr_is, rR_is, ckW_is, cR_is, obi2, ckW_int, eq_self, if_true, ref_null, if_false, ne_eq, not_true_eq_false, not_false_eq_true, decide_true, decide_false, decide_not, Bool.true_and, Bool.false_and, Bool.and_true, Bool.and_false, Bool.true_or, Bool.false_or, Bool.or_true, Bool.or_false, Bool.not_true, Bool.not_false, Bool.false_eq_true, bI_t, bI_f, Int.natCast_one, Int.cast_ofNat_Int, Int.natCast_zero, ju_self, ju_ne = jc_ref, rI_int, rR_ref, rR_null, rJ_long, ckR_ref, ckR_null, ckr_ref, ckr_null, ckW_int, ckW_ref, ckW_null, cI_ok, cR_ok, cR_null, cV_ok, cJ_ok, qH_eq, qD_in, aG_ref, aS_ref, aL_ref, pF_ref, cK_ref, cK_null, zI_lit, zJ_lit, zI_add, zI_sub, zI_mul, zI_neg, zI_eq, zI_lt, zI_le, Int.reduceLT, Int.reduceLE, Int.reduceAdd, Int.reduceSub, Int.reduceMul, Int.reduceNeg, Int.reduceEq, Int.reduceNe, reduceIte, jf_in, pFc_in, aGi, aGb, aSi, aLc_in, cKc_in, nA_in, jm_s1, jm_s2, jm_p1, jm_p2, jm_b, jn_b, jn_s, jn_p, jset_jset, jset_jpush2, ckR_is, ckr_is, rR_is, ckW_is, cR_is, obi2, ckW_int, eq_self, if_true, ref_null, if_false, ne_eq, not_true_eq_false, not_false_eq_true, decide_true, decide_false, decide_not, Bool.true_and, Bool.false_and, Bool.and_true, Bool.and_false, Bool.true_or, Bool.false_or, Bool.or_true, Bool.or_false, Bool.not_true, Bool.not_false, Bool.false_eq_true, bI_t, bI_f, Int.natCast_one, Int.cast_ofNat_Int, Int.natCast_zero, ju_self, ju_ne
/-- a list of things, of any room -/
def LstB (H : AH) (u : Nat) (n : Int) (P : Int → Nat → Prop) : Prop := ∃ cap mc l, jm H u = some (cAL cap mc l) ∧ cap ≤ 15 + 2 * l.length ∧ (l.length : Int) = n ∧ ∀ k : Int, 0 ≤ k → k < n → ∃ b, l.getD k.toNat .null = .ref b ∧ P k b
section
variable {d : Nat} {H H2 : AH} {b u : Nat} {n t : Int} {P Q : Int → Nat → Prop}
theorem LstB.up (h : LstB H u n P) (e : jm H2 u = jm H u) (hp : ∀ k b, 0 ≤ k → k < n → P k b → Q k b) : LstB H2 u n Q := by
  obtain ⟨cap, mc, l, h1, h2, h3, h4⟩ := h
  refine ⟨cap, mc, l, e.trans h1, h2, h3, fun k k0 k1 => ?_⟩
  obtain ⟨b, b1, b2⟩ := h4 k k0 k1
  exact ⟨b, b1, hp k b k0 k1 b2⟩
theorem LstB.add (h : LstB H u n P) (n9 : n ≤ 1000) {c : Cl} (hb : jm H b = some c) (hc : c.1 < 1000) : ∃ H2, (∀ d, M2 (d + 1) 43000 [.ref u, .ref b] H = some (.inl (some (.int 1)), H2)) ∧ Fr H H2 (fun x => x = u) ∧ H2.1 ≤ H.1 + 1 ∧ (H2.2.1 : Int) ≤ H.2.1 + 15 + 2 * n ∧ ∀ Q : Int → Nat → Prop, (∀ k x, 0 ≤ k → k < n → P k x → Q k x) → Q n b → LstB H2 u (n + 1) Q := by
  obtain ⟨cap, mc, l, h1, h2, h3, h4⟩ := h
  have ad := fun d => h_add (d := d) h1 (by omega) (v := .ref b) (Or.inr ⟨b, c, rfl, hb, hc⟩)
  have cases : ∃ HB cap', alBurn H cap l.length = HB ∧ alUp cap l.length = cap' ∧ cap' ≤ 15 + 2 * l.length ∧ Fr H HB (fun x => x = u) ∧ HB.1 ≤ H.1 + 1 ∧ (HB.2.1 : Int) ≤ H.2.1 + 15 + 2 * n := by
    by_cases c : l.length < cap
    · refine ⟨H, cap, ?_, ?_, h2, Fr.rf, Nat.le_succ _, by omega⟩
      · unfold alBurn; rw [if_pos c]
      · unfold alUp; rw [if_pos c]
    · have cp : alCap cap ≤ 15 + 2 * l.length := by
        unfold alCap
        split
        · omega
        · omega
      refine ⟨jburn H 1 (alCap cap), alCap cap, ?_, ?_, cp, Fr.burn, Nat.le_refl _, ?_⟩
      · unfold alBurn; rw [if_neg c]
      · unfold alUp; rw [if_neg c]
      · show ((H.2.1 + alCap cap : Nat) : Int) ≤ _
        omega
  obtain ⟨HB, cap', e1, e2, e6, e3, e4, e5⟩ := cases
  rw [e1, e2] at ad
  refine ⟨_, ad, e3.tr (Fr.set rfl), e4, e5, fun Q hq q1 => ⟨cap', mc + 1, l ++ [.ref b], jm_s1, by rw [List.length_append]; simp; omega, by rw [List.length_append]; simp; omega, fun k k0 k1 => ?_⟩⟩
  by_cases c1 : k < n
  · obtain ⟨x, x1, x2⟩ := h4 k k0 c1
    refine ⟨x, ?_, hq k x k0 c1 x2⟩
    rw [List.getD_eq_getElem?_getD, List.getElem?_append_left (by omega), ← List.getD_eq_getElem?_getD]; exact x1
  · have ek : k = n := by omega
    subst ek
    refine ⟨b, ?_, q1⟩
    rw [List.getD_eq_getElem?_getD, List.getElem?_append_right (by omega), show k.toNat - l.length = 0 by omega]; rfl
end
