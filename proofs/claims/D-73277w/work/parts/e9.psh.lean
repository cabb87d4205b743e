/-! sort: a run is laid on the stack -/
-- jc_ref, rI_int, rR_ref, rR_null, rJ_long, ckR_ref, ckR_null, ckr_ref, ckr_null, ckW_int, ckW_ref, ckW_null, cI_ok, cR_ok, cR_null, cV_ok, cJ_ok, qH_eq, qD_in, aG_ref, aS_ref, aL_ref, pF_ref, cK_ref, cK_null, zI_lit, zJ_lit, zI_add, zI_sub, zI_mul, zI_neg, zI_eq, zI_lt, zI_le, Int.reduceLT, Int.reduceLE, Int.reduceAdd, Int.reduceSub, Int.reduceMul, Int.reduceNeg, Int.reduceEq, Int.reduceNe, reduceIte, jf_in, pFc_in, aGi, aGb, aSi, aLc_in, cKc_in, nA_in, jm_s1, jm_s2, jm_p1, jm_p2, jm_b, jn_b, jn_s, jn_p, jset_jset, jset_jpush2, ckR_is, ckr_is, rR_is, ckW_is, cR_is, obi2, ckW_int, eq_self, if_true, ref_null, if_false, ne_eq, not_true_eq_false, not_false_eq_true, decide_true, decide_false, decide_not, Bool.true_and, Bool.false_and, Bool.and_true, Bool.and_false, Bool.true_or, Bool.false_or, Bool.or_true, Bool.or_false, Bool.not_true, Bool.not_false, Bool.false_eq_true, bI_t, bI_f, Int.natCast_one, Int.cast_ofNat_Int, Int.natCast_zero, Int.toNat_natCast, o72_0, o72_1, o72_2, o72_3, o72_4, o72_5, o72_6, o72_7, n72, o72s_0, o72s_1, o72s_2, o72s_3, o72s_4, o72s_5, o72s_6, o72s_7 = jc_ref, rI_int, rR_ref, rR_null, rJ_long, ckR_ref, ckR_null, ckr_ref, ckr_null, ckW_int, ckW_ref, ckW_null, cI_ok, cR_ok, cR_null, cV_ok, cJ_ok, qH_eq, qD_in, aG_ref, aS_ref, aL_ref, pF_ref, cK_ref, cK_null, zI_lit, zJ_lit, zI_add, zI_sub, zI_mul, zI_neg, zI_eq, zI_lt, zI_le, Int.reduceLT, Int.reduceLE, Int.reduceAdd, Int.reduceSub, Int.reduceMul, Int.reduceNeg, Int.reduceEq, Int.reduceNe, reduceIte, jf_in, pFc_in, aGi, aGb, aSi, aLc_in, cKc_in, nA_in, jm_s1, jm_s2, jm_p1, jm_p2, jm_b, jn_b, jn_s, jn_p, jset_jset, jset_jpush2, ckR_is, ckr_is, rR_is, ckW_is, cR_is, obi2, ckW_int, eq_self, if_true, ref_null, if_false, ne_eq, not_true_eq_false, not_false_eq_true, decide_true, decide_false, decide_not, Bool.true_and, Bool.false_and, Bool.and_true, Bool.and_false, Bool.true_or, Bool.false_or, Bool.or_true, Bool.or_false, Bool.not_true, Bool.not_false, Bool.false_eq_true, bI_t, bI_f, Int.natCast_one, Int.cast_ofNat_Int, Int.natCast_zero, Int.toNat_natCast, o72_0, o72_1, o72_2, o72_3, o72_4, o72_5, o72_6, o72_7, n72, o72s_0, o72s_1, o72s_2, o72s_3, o72s_4, o72s_5, o72s_6, o72s_7
section
variable {G : Nat → Option Cl} {rk : Value → Int} {d : Nat} {H : AH} {e e2 ts N N2 rb rl SL k En len : Nat} {f0 f : Nat → Value} {mg V : Int} {bs ls : Nat → Nat}
def puB (k En : Nat) (bs : Nat → Nat) : Nat → Nat := fun j => if j = k then En else bs j
theorem RunW.push (h : RunW rk f k bs ls) (hE : bs (k - 1) + ls (k - 1) = En) (hz : k = 0 → En = 0) (hl : 1 ≤ len) (hs : SrtA rk f En len) : RunW rk f (k + 1) (puB k En bs) (puB k len ls) := by
  obtain ⟨h1, h2, h3⟩ := h
  have pe : ∀ (b : Nat) (g : Nat → Nat), puB k b g k = b := fun b g => if_pos rfl
  have pn : ∀ (b : Nat) (g : Nat → Nat) (i : Nat), i ≠ k → puB k b g i = g i := fun b g i hi => if_neg hi
  refine ⟨fun i hi => ?_, fun i hi => ?_, ?_⟩
  · by_cases c : i = k
    · rw [c, pe, pe]; exact ⟨hl, hs⟩
    · rw [pn _ _ _ c, pn _ _ _ c]; exact h1 i (by omega)
  · rw [pn _ _ i (by omega), pn _ _ i (by omega)]
    by_cases c : i + 1 = k
    · rw [c, pe, ← hE, show k - 1 = i by omega]
    · rw [pn _ _ _ c]; exact h2 i (by omega)
  · by_cases c : 0 = k
    · have := pe En bs; rw [← c] at this ⊢; rw [this]; exact hz c.symm
    · rw [pn _ _ _ c]; exact h3
theorem c_push (h : StS G rk H ts e e2 rb rl N N2 SL k En f0 f mg V bs ls) (hz : k = 0 → En = 0) (hl : 1 ≤ len) (hs : SrtA rk f En len) (hN : En + len ≤ N) (hk : k < SL) (hV : V + 3 * N < 1000000000) :
    ∃ H2, M2 (d + 1) 72011 [.ref ts, .int (zI En), .int (zI len)] H = some (.inl none, H2) ∧ StS G rk H2 ts e e2 rb rl N N2 SL (k + 1) (En + len) f0 f mg (V + 3 * N) (puB k En bs) (puB k len ls) ∧ Fr H H2 (SrtP e ts e2 rb rl) ∧ H2.1 = H.1 ∧ H2.2.1 = H.2.1 := by
  obtain ⟨hT, ⟨⟨p, q, a1, a2, a3⟩, b1, b2, ⟨b3, b3'⟩, ⟨c1, c2, c3, c4⟩, ⟨c5, c6, c7⟩, d1, d2⟩, hW, ⟨hE, hEN⟩, hA, ⟨m1, m2, m3, m4⟩, hp⟩ := h
  obtain ⟨hG, ⟨g1, g2, g3⟩, ⟨x1, x2, x3⟩, hN1, hq, me, ⟨t0, mt⟩, ms, l1, l2, l3⟩ := hT
  have c1' := Ne.symm c1
  have c2' := Ne.symm c2
  have c3' := Ne.symm c3
  have c4' := Ne.symm c4
  have c5' := Ne.symm c5
  have c6' := Ne.symm c6
  have c7' := Ne.symm c7
  have x2' := Ne.symm x2
  have x3' := Ne.symm x3
  have ek : 3 * (N : Int) * ((k + 1 : Nat) : Int) = 3 * N * k + 3 * N := by rw [show ((k + 1 : Nat) : Int) = (k : Int) + 1 by omega, Int.mul_add, Int.mul_one]
  refine ⟨jset (jset (jset H rb (1000, SL, aI (fset p k En))) rl (1000, SL, aI (fset q k len))) ts (72, 8, o72 (.ref e) mg (.ref e2) 0 N2 ((k : Int) + 1) (.ref rb) (.ref rl)), ?_, ⟨⟨((hG.arr b3).arr b3').arr g2, ⟨g1, g2, g3⟩, ⟨x1, x2, x3⟩, hN1, hq, ?_, ⟨t0, ?_⟩, jm_s1, l1, l2, l3⟩, ⟨⟨fset p k En, fset q k len, ?_, ?_, fun i hi => ?_⟩, by omega, b2, ⟨b3, b3'⟩, ⟨c1, c2, c3, c4⟩, ⟨c5, c6, c7⟩, d1, d2⟩, hW.push hE hz hl hs, ⟨?_, hN⟩, hA, ⟨m1, by omega, by omega, hV⟩, hp⟩, ?_, rfl, rfl⟩
  · rw [Y72011 H (jrecv_in ms rfl), F72011_0]
    simp (disch := first | assumption | omega | decide | exact okF_i | exact okF_r | exact okF_n | exact okF_j | rfl) only [jc_ref, rI_int, rR_ref, rR_null, rJ_long, ckR_ref, ckR_null, ckr_ref, ckr_null, ckW_int, ckW_ref, ckW_null, cI_ok, cR_ok, cR_null, cV_ok, cJ_ok, qH_eq, qD_in, aG_ref, aS_ref, aL_ref, pF_ref, cK_ref, cK_null, zI_lit, zJ_lit, zI_add, zI_sub, zI_mul, zI_neg, zI_eq, zI_lt, zI_le, Int.reduceLT, Int.reduceLE, Int.reduceAdd, Int.reduceSub, Int.reduceMul, Int.reduceNeg, Int.reduceEq, Int.reduceNe, reduceIte, jf_in, pFc_in, aGi, aGb, aSi, aLc_in, cKc_in, nA_in, jm_s1, jm_s2, jm_p1, jm_p2, jm_b, jn_b, jn_s, jn_p, jset_jset, jset_jpush2, ckR_is, ckr_is, rR_is, ckW_is, cR_is, obi2, ckW_int, eq_self, if_true, ref_null, if_false, ne_eq, not_true_eq_false, not_false_eq_true, decide_true, decide_false, decide_not, Bool.true_and, Bool.false_and, Bool.and_true, Bool.and_false, Bool.true_or, Bool.false_or, Bool.or_true, Bool.or_false, Bool.not_true, Bool.not_false, Bool.false_eq_true, bI_t, bI_f, Int.natCast_one, Int.cast_ofNat_Int, Int.natCast_zero, Int.toNat_natCast, o72_0, o72_1, o72_2, o72_3, o72_4, o72_5, o72_6, o72_7, n72, o72s_0, o72s_1, o72s_2, o72s_3, o72s_4, o72s_5, o72s_6, o72s_7, ms, a1, a2]
  · exact (jm_s2 x2').trans ((jm_s2 c5').trans ((jm_s2 c2').trans me))
  · exact (jm_s2 x3').trans ((jm_s2 c7').trans ((jm_s2 c4').trans mt))
  · exact (jm_s2 c3).trans ((jm_s2 c1).trans jm_s1)
  · exact (jm_s2 c6).trans jm_s1
  · unfold puB
    by_cases c : i = k
    · rw [if_pos c, if_pos c, c, fset_eq, fset_eq]; exact ⟨rfl, rfl⟩
    · rw [if_neg c, if_neg c, fset_ne (by omega), fset_ne (by omega)]; exact a3 i (by omega)
  · unfold puB
    rw [if_pos (by omega), if_pos (by omega)]
  · exact (Fr.set (Or.inr (Or.inr (Or.inr (Or.inl rfl))))).tr ((Fr.set (Or.inr (Or.inr (Or.inr (Or.inr rfl))))).tr (Fr.set (Or.inr (Or.inl rfl))))
end
