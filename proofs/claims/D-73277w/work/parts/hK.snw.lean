/-! a new store; its marks; begin, commit, back -/
-- jc_ref, rI_int, rR_ref, rR_null, rJ_long, ckR_ref, ckR_null, ckr_ref, ckr_null, ckW_int, ckW_ref, ckW_null, cI_ok, cR_ok, cR_null, cV_ok, cJ_ok, qH_eq, qD_in, aG_ref, aS_ref, aL_ref, pF_ref, cK_ref, cK_null, zI_lit, zJ_lit, zI_add, zI_sub, zI_mul, zI_neg, zI_eq, zI_lt, zI_le, Int.reduceLT, Int.reduceLE, Int.reduceAdd, Int.reduceSub, Int.reduceMul, Int.reduceNeg, Int.reduceEq, Int.reduceNe, reduceIte, jf_in, pFc_in, aGi, aGb, aSi, aLc_in, cKc_in, nA_in, jm_s1, jm_s2, jm_p1, jm_p2, jm_b, jn_b, jn_s, jn_p, jset_jset, jset_jpush2, ckR_is, ckr_is, rR_is, ckW_is, cR_is, obi2, ckW_int, eq_self, if_true, ref_null, if_false, ne_eq, not_true_eq_false, not_false_eq_true, decide_true, decide_false, decide_not, Bool.true_and, Bool.false_and, Bool.and_true, Bool.and_false, Bool.true_or, Bool.false_or, Bool.or_true, Bool.or_false, Bool.not_true, Bool.not_false, Bool.false_eq_true, bI_t, bI_f, Int.natCast_one, Int.cast_ofNat_Int, Int.natCast_zero, o23_0, o23_1, o23_2, o4_0, o4_1, o4_2, o4_3, o4_4, o4_5, o4_6, n4, o4s_0, o4s_1, o4s_2, o4s_3, o4s_4, o4s_5, o4s_6 = jc_ref, rI_int, rR_ref, rR_null, rJ_long, ckR_ref, ckR_null, ckr_ref, ckr_null, ckW_int, ckW_ref, ckW_null, cI_ok, cR_ok, cR_null, cV_ok, cJ_ok, qH_eq, qD_in, aG_ref, aS_ref, aL_ref, pF_ref, cK_ref, cK_null, zI_lit, zJ_lit, zI_add, zI_sub, zI_mul, zI_neg, zI_eq, zI_lt, zI_le, Int.reduceLT, Int.reduceLE, Int.reduceAdd, Int.reduceSub, Int.reduceMul, Int.reduceNeg, Int.reduceEq, Int.reduceNe, reduceIte, jf_in, pFc_in, aGi, aGb, aSi, aLc_in, cKc_in, nA_in, jm_s1, jm_s2, jm_p1, jm_p2, jm_b, jn_b, jn_s, jn_p, jset_jset, jset_jpush2, ckR_is, ckr_is, rR_is, ckW_is, cR_is, obi2, ckW_int, eq_self, if_true, ref_null, if_false, ne_eq, not_true_eq_false, not_false_eq_true, decide_true, decide_false, decide_not, Bool.true_and, Bool.false_and, Bool.and_true, Bool.and_false, Bool.true_or, Bool.false_or, Bool.or_true, Bool.or_false, Bool.not_true, Bool.not_false, Bool.false_eq_true, bI_t, bI_f, Int.natCast_one, Int.cast_ofNat_Int, Int.natCast_zero, o23_0, o23_1, o23_2, o4_0, o4_1, o4_2, o4_3, o4_4, o4_5, o4_6, n4, o4s_0, o4s_1, o4s_2, o4s_3, o4s_4, o4s_5, o4s_6
section
variable {d : Nat} {H : AH} {a : Nat}
/-- a list of room 40 is made for an object -/
def nlH (H : AH) (a : Nat) (c : Cl) : AH := jset (jset (jburn (jpush H (43, 3, jL [.int (zI 0), .null, .int (zI 0)])) 1 40) H.1 (cAL 40 0 [])) a c
theorem nl_f {c : Cl} (al : a < H.1) : (nlH H a c).1 = H.1 + 2 ∧ (nlH H a c).2.1 = H.2.1 + 43 ∧ jm (nlH H a c) a = some c ∧ jm (nlH H a c) H.1 = some (cAL 40 0 []) ∧ (∀ q, q ≠ a → q < H.1 → jm (nlH H a c) q = jm H q) ∧ je (nlH H a c) = je H := by
  unfold nlH
  refine ⟨rfl, rfl, jm_s1, ?_, fun q h1 h2 => ?_, rfl⟩
  · rw [jm_s2 (by omega)]; exact jm_s1
  · rw [jm_s2 h1, jm_s2 (by omega), jm_b, jm_p2 (by omega)]
theorem nl_new : M2 (d + 1) 43901 [.ref H.1, .int (zI 40)] (jpush H (43, 3, jL [.int (zI 0), .null, .int (zI 0)])) = some (.inl none, jset (jburn (jpush H (43, 3, jL [.int (zI 0), .null, .int (zI 0)])) 1 40) H.1 (cAL 40 0 [])) :=
  h_newC (d := d) (H := jpush H (43, 3, jL [.int (zI 0), .null, .int (zI 0)])) (a := H.1) (i := 40) jm_p1 (by omega) (by omega)
theorem c_storeNew (h : jm H a = some (4, 7, o4 .null 0 0 .null .null .null .null)) (ha : a + 1 = H.1) : ∃ H2, M2 (d + 2) 4900 [.ref a] H = some (.inl none, H2) ∧ SH H2 a .null 0 0 [] [] [] 1 (fun _ => false) ∧ Fr H H2 (fun q => q = a) ∧ H2.1 = H.1 + 8 ∧ H2.2.1 = H.2.1 + 133 := by
  have al : a < H.1 := by omega
  obtain ⟨H1, hH1⟩ : ∃ H1, H1 = nlH H a (4, 7, o4 .null 0 0 (.ref (a + 1)) .null .null .null) := ⟨_, rfl⟩
  obtain ⟨x1, x2, x3, x4, x5, x6⟩ := nl_f (c := (4, 7, o4 .null 0 0 (.ref (a + 1)) .null .null .null)) al
  rw [← hH1] at x1 x2 x3 x4 x5 x6
  obtain ⟨H2, hH2⟩ : ∃ H2, H2 = nlH H1 a (4, 7, o4 .null 0 0 (.ref (a + 1)) (.ref (a + 3)) .null .null) := ⟨_, rfl⟩
  obtain ⟨y1, y2, y3, y4, y5, y6⟩ := nl_f (H := H1) (c := (4, 7, o4 .null 0 0 (.ref (a + 1)) (.ref (a + 3)) .null .null)) (a := a) (by omega)
  rw [← hH2] at y1 y2 y3 y4 y5 y6
  obtain ⟨H3, hH3⟩ : ∃ H3, H3 = nlH H2 a (4, 7, o4 .null 0 0 (.ref (a + 1)) (.ref (a + 3)) (.ref (a + 5)) .null) := ⟨_, rfl⟩
  obtain ⟨z1, z2, z3, z4, z5, z6⟩ := nl_f (H := H2) (c := (4, 7, o4 .null 0 0 (.ref (a + 1)) (.ref (a + 3)) (.ref (a + 5)) .null)) (a := a) (by omega)
  rw [← hH3] at z1 z2 z3 z4 z5 z6
  have b1 := h_bnew (d := d) (H := jpush H3 (44, 3, jL [.null, .int (zI 0), .int (zI 0)])) (a := H3.1) jm_p1
  obtain ⟨H4, hH4⟩ : ∃ H4, H4 = jset (jset (jburn (jpush H3 (44, 3, jL [.null, .int (zI 0), .int (zI 0)])) 1 1) H3.1 (cBS 1 fun _ => false)) a (4, 7, o4 .null 0 0 (.ref (a + 1)) (.ref (a + 3)) (.ref (a + 5)) (.ref (a + 7))) := ⟨_, rfl⟩
  have e1 : H.1 = a + 1 := by omega
  have e2 : H1.1 = a + 3 := by omega
  have e3 : H2.1 = a + 5 := by omega
  have e4 : H3.1 = a + 7 := by omega
  have n1 := fun d => nl_new (d := d) (H := H)
  have n2 := fun d => nl_new (d := d) (H := H1)
  have n3 := fun d => nl_new (d := d) (H := H2)
  have r1 : jset (jset (jburn (jpush H (43, 3, jL [.int (zI 0), .null, .int (zI 0)])) 1 40) H.1 (cAL 40 0 [])) a (4, 7, o4 .null 0 0 (.ref (a + 1)) .null .null .null) = H1 := hH1.symm
  have r2 : jset (jset (jburn (jpush H1 (43, 3, jL [.int (zI 0), .null, .int (zI 0)])) 1 40) H1.1 (cAL 40 0 [])) a (4, 7, o4 .null 0 0 (.ref (a + 1)) (.ref (a + 3)) .null .null) = H2 := hH2.symm
  have r3 : jset (jset (jburn (jpush H2 (43, 3, jL [.int (zI 0), .null, .int (zI 0)])) 1 40) H2.1 (cAL 40 0 [])) a (4, 7, o4 .null 0 0 (.ref (a + 1)) (.ref (a + 3)) (.ref (a + 5)) .null) = H3 := hH3.symm
  have m1 : jm (jset (jburn (jpush H (43, 3, jL [.int (zI 0), .null, .int (zI 0)])) 1 40) H.1 (cAL 40 0 [])) a = some (4, 7, o4 .null 0 0 .null .null .null .null) := by rw [jm_s2 (by omega), jm_b, jm_p2 (by omega)]; exact h
  have m2 : jm (jset (jburn (jpush H1 (43, 3, jL [.int (zI 0), .null, .int (zI 0)])) 1 40) H1.1 (cAL 40 0 [])) a = some (4, 7, o4 .null 0 0 (.ref (a + 1)) .null .null .null) := by rw [jm_s2 (by omega), jm_b, jm_p2 (by omega)]; exact x3
  have m3 : jm (jset (jburn (jpush H2 (43, 3, jL [.int (zI 0), .null, .int (zI 0)])) 1 40) H2.1 (cAL 40 0 [])) a = some (4, 7, o4 .null 0 0 (.ref (a + 1)) (.ref (a + 3)) .null .null) := by rw [jm_s2 (by omega), jm_b, jm_p2 (by omega)]; exact y3
  have m4 : jm (jset (jburn (jpush H3 (44, 3, jL [.null, .int (zI 0), .int (zI 0)])) 1 1) H3.1 (cBS 1 fun _ => false)) a = some (4, 7, o4 .null 0 0 (.ref (a + 1)) (.ref (a + 3)) (.ref (a + 5)) .null) := by rw [jm_s2 (by omega), jm_b, jm_p2 (by omega)]; exact z3
  have fr : Fr H H4 (fun q => q = a) := by
    refine ⟨?_, ?_, fun q q1 q2 => ?_⟩
    · rw [hH4]; show H.1 ≤ H3.1 + 1 + 1; omega
    · rw [hH4]; show je H3 = je H; rw [z6, y6, x6]
    · rw [hH4, jm_s2 q2, jm_s2 (by omega), jm_b, jm_p2 (by omega), z5 q q2 (by omega), y5 q q2 (by omega), x5 q q2 q1]
  refine ⟨H4, ?_, ⟨?_, ⟨0, ?_⟩, ⟨0, ?_⟩, ⟨0, ?_⟩, ?_, ?_, rfl, by omega, by omega⟩, fr, ?_, ?_⟩
  · have rv : (jtRecv 4900).elem 4 = true := rfl
    rw [Y4900 H (jrecv_in h rv), F4900_0]
    have c40 : ((40 : Int32)) = zI 40 := rfl
    rw [e1] at n1 r1 m1
    rw [e2] at n2 r2 m2
    rw [e3] at n3 r3 m3
    rw [e4] at b1 m4
    rw [show cAL 40 0 [] = cAL 40 (zI 0) [] from rfl] at n1 n2 n3 r1 r2 r3
    have a1 : a ≠ a + 1 := by omega
    have a3 : a ≠ a + 3 := by omega
    have a5 : a ≠ a + 5 := by omega
    have a7 : a ≠ a + 7 := by omega
    simp (disch := first | assumption | omega | decide | exact okF_i | exact okF_r | exact okF_n | exact okF_j | rfl) only [jc_ref, rI_int, rR_ref, rR_null, rJ_long, ckR_ref, ckR_null, ckr_ref, ckr_null, ckW_int, ckW_ref, ckW_null, cI_ok, cR_ok, cR_null, cV_ok, cJ_ok, qH_eq, qD_in, aG_ref, aS_ref, aL_ref, pF_ref, cK_ref, cK_null, zI_lit, zJ_lit, zI_add, zI_sub, zI_mul, zI_neg, zI_eq, zI_lt, zI_le, Int.reduceLT, Int.reduceLE, Int.reduceAdd, Int.reduceSub, Int.reduceMul, Int.reduceNeg, Int.reduceEq, Int.reduceNe, reduceIte, jf_in, pFc_in, aGi, aGb, aSi, aLc_in, cKc_in, nA_in, jm_s1, jm_s2, jm_p1, jm_p2, jm_b, jn_b, jn_s, jn_p, jset_jset, jset_jpush2, ckR_is, ckr_is, rR_is, ckW_is, cR_is, obi2, ckW_int, eq_self, if_true, ref_null, if_false, ne_eq, not_true_eq_false, not_false_eq_true, decide_true, decide_false, decide_not, Bool.true_and, Bool.false_and, Bool.and_true, Bool.and_false, Bool.true_or, Bool.false_or, Bool.or_true, Bool.or_false, Bool.not_true, Bool.not_false, Bool.false_eq_true, bI_t, bI_f, Int.natCast_one, Int.cast_ofNat_Int, Int.natCast_zero, o23_0, o23_1, o23_2, o4_0, o4_1, o4_2, o4_3, o4_4, o4_5, o4_6, n4, o4s_0, o4s_1, o4s_2, o4s_3, o4s_4, o4s_5, o4s_6, n4, o4s_0, o4s_1, o4s_2, o4s_3, o4s_4, o4s_5, o4s_6, h, x3, y3, z3, e1, n1, r1, e2, n2, r2, e3, n3, r3, e4, b1, m4]
    rw [hH4, e4]
  · rw [hH4]; exact jm_s1
  · rw [hH4, jm_s2 (by omega), jm_s2 (by omega), jm_b, jm_p2 (by omega), z5 _ (by omega) (by omega), y5 _ (by omega) (by omega), ← e1]; exact x4
  · rw [hH4, jm_s2 (by omega), jm_s2 (by omega), jm_b, jm_p2 (by omega), z5 _ (by omega) (by omega), ← e2]; exact y4
  · rw [hH4, jm_s2 (by omega), jm_s2 (by omega), jm_b, jm_p2 (by omega), ← e3]; exact z4
  · rw [hH4, jm_s2 (by omega), ← e4]; exact jm_s1
  · rw [hH4]; show a + 8 < H3.1 + 1 + 1; omega
  · rw [hH4]; show H3.1 + 1 + 1 = _; omega
  · rw [hH4]; show H3.2.1 + 3 + 1 = _; omega
end
