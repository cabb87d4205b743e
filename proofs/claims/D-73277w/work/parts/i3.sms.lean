/-! readers, made; a schema, made -/
-- jc_ref, rI_int, rR_ref, rR_null, rJ_long, ckR_ref, ckR_null, ckr_ref, ckr_null, ckW_int, ckW_ref, ckW_null, cI_ok, cR_ok, cR_null, cV_ok, cJ_ok, qH_eq, qD_in, aG_ref, aS_ref, aL_ref, pF_ref, cK_ref, cK_null, zI_lit, zJ_lit, zI_add, zI_sub, zI_mul, zI_neg, zI_eq, zI_lt, zI_le, Int.reduceLT, Int.reduceLE, Int.reduceAdd, Int.reduceSub, Int.reduceMul, Int.reduceNeg, Int.reduceEq, Int.reduceNe, reduceIte, jf_in, pFc_in, aGi, aGb, aSi, aLc_in, cKc_in, nA_in, jm_s1, jm_s2, jm_p1, jm_p2, jm_b, jn_b, jn_s, jn_p, jset_jset, jset_jpush2, ckR_is, ckr_is, rR_is, ckW_is, cR_is, obi2, ckW_int, eq_self, if_true, ref_null, if_false, ne_eq, not_true_eq_false, not_false_eq_true, decide_true, decide_false, decide_not, Bool.true_and, Bool.false_and, Bool.and_true, Bool.and_false, Bool.true_or, Bool.false_or, Bool.or_true, Bool.or_false, Bool.not_true, Bool.not_false, Bool.false_eq_true, bI_t, bI_f, Int.natCast_one, Int.cast_ofNat_Int, Int.natCast_zero, ju_self, ju_ne = jc_ref, rI_int, rR_ref, rR_null, rJ_long, ckR_ref, ckR_null, ckr_ref, ckr_null, ckW_int, ckW_ref, ckW_null, cI_ok, cR_ok, cR_null, cV_ok, cJ_ok, qH_eq, qD_in, aG_ref, aS_ref, aL_ref, pF_ref, cK_ref, cK_null, zI_lit, zJ_lit, zI_add, zI_sub, zI_mul, zI_neg, zI_eq, zI_lt, zI_le, Int.reduceLT, Int.reduceLE, Int.reduceAdd, Int.reduceSub, Int.reduceMul, Int.reduceNeg, Int.reduceEq, Int.reduceNe, reduceIte, jf_in, pFc_in, aGi, aGb, aSi, aLc_in, cKc_in, nA_in, jm_s1, jm_s2, jm_p1, jm_p2, jm_b, jn_b, jn_s, jn_p, jset_jset, jset_jpush2, ckR_is, ckr_is, rR_is, ckW_is, cR_is, obi2, ckW_int, eq_self, if_true, ref_null, if_false, ne_eq, not_true_eq_false, not_false_eq_true, decide_true, decide_false, decide_not, Bool.true_and, Bool.false_and, Bool.and_true, Bool.and_false, Bool.true_or, Bool.false_or, Bool.or_true, Bool.or_false, Bool.not_true, Bool.not_false, Bool.false_eq_true, bI_t, bI_f, Int.natCast_one, Int.cast_ofNat_Int, Int.natCast_zero, ju_self, ju_ne
/-- a list without room is made for an object -/
def nl0 (H : AH) (a : Nat) (c : Cl) : AH := jset (jset (jpush H (43, 3, jL [.int (zI 0), .null, .int (zI 0)])) H.1 (cAL 0 0 [])) a c
section
variable {d : Nat} {H H2 : AH} {a b q n t tp sc : Nat} {z l : Int} {f : Nat → Value} {c : Cl} {g : Int → Int} {B : Nat → Prop}
theorem nl0_f (al : a < H.1) : (nl0 H a c).1 = H.1 + 1 ∧ (nl0 H a c).2.1 = H.2.1 + 3 ∧ jm (nl0 H a c) a = some c ∧ jm (nl0 H a c) H.1 = some (cAL 0 0 []) ∧ (∀ q, q ≠ a → q < H.1 → jm (nl0 H a c) q = jm H q) ∧ je (nl0 H a c) = je H := by
  unfold nl0
  refine ⟨rfl, rfl, jm_s1, ?_, fun q h1 h2 => ?_, rfl⟩
  · rw [jm_s2 (by omega)]; exact jm_s1
  · rw [jm_s2 h1, jm_s2 (by omega), jm_p2 (by omega)]
theorem nl0_new : M2 (d + 1) 43900 [.ref H.1] (jpush H (43, 3, jL [.int (zI 0), .null, .int (zI 0)])) = some (.inl none, jset (jpush H (43, 3, jL [.int (zI 0), .null, .int (zI 0)])) H.1 (cAL 0 0 [])) := h_new (d := d) jm_p1
/-- a schema's lists -/
theorem ck_3900 (h : jm H q = some (3, 5, o3 0 .null .null .null .null)) (hq : q + 1 = H.1) : ∃ H2, M2 (d + 2) 3900 [.ref q] H = some (.inl none, H2) ∧ Fr H H2 (fun u => u = q) ∧ H2.1 = H.1 + 4 ∧ H2.2.1 = H.2.1 + 12 ∧ jm H2 q = some (3, 5, o3 0 (.ref (q + 1)) (.ref (q + 2)) (.ref (q + 3)) (.ref (q + 4))) ∧ jm H2 (q + 1) = some (cAL 0 0 []) ∧ jm H2 (q + 2) = some (cAL 0 0 []) ∧ jm H2 (q + 3) = some (cAL 0 0 []) ∧ jm H2 (q + 4) = some (cAL 0 0 []) := by
  obtain ⟨H1, hH1⟩ : ∃ H1, H1 = nl0 H q (3, 5, o3 0 (.ref (q + 1)) .null .null .null) := ⟨_, rfl⟩
  obtain ⟨x1, x2, x3, x4, x5, x6⟩ := nl0_f (c := (3, 5, o3 0 (.ref (q + 1)) .null .null .null)) (show q < H.1 by omega)
  rw [← hH1] at x1 x2 x3 x4 x5 x6
  obtain ⟨H2, hH2⟩ : ∃ H2, H2 = nl0 H1 q (3, 5, o3 0 (.ref (q + 1)) (.ref (q + 2)) .null .null) := ⟨_, rfl⟩
  obtain ⟨y1, y2, y3, y4, y5, y6⟩ := nl0_f (c := (3, 5, o3 0 (.ref (q + 1)) (.ref (q + 2)) .null .null)) (show q < H1.1 by omega)
  rw [← hH2] at y1 y2 y3 y4 y5 y6
  obtain ⟨H3, hH3⟩ : ∃ H3, H3 = nl0 H2 q (3, 5, o3 0 (.ref (q + 1)) (.ref (q + 2)) (.ref (q + 3)) .null) := ⟨_, rfl⟩
  obtain ⟨z1, z2, z3, z4, z5, z6⟩ := nl0_f (c := (3, 5, o3 0 (.ref (q + 1)) (.ref (q + 2)) (.ref (q + 3)) .null)) (show q < H2.1 by omega)
  rw [← hH3] at z1 z2 z3 z4 z5 z6
  obtain ⟨H4, hH4⟩ : ∃ H4, H4 = nl0 H3 q (3, 5, o3 0 (.ref (q + 1)) (.ref (q + 2)) (.ref (q + 3)) (.ref (q + 4))) := ⟨_, rfl⟩
  obtain ⟨w1, w2, w3, w4, w5, w6⟩ := nl0_f (c := (3, 5, o3 0 (.ref (q + 1)) (.ref (q + 2)) (.ref (q + 3)) (.ref (q + 4)))) (show q < H3.1 by omega)
  rw [← hH4] at w1 w2 w3 w4 w5 w6
  have e1 : H.1 = q + 1 := hq.symm
  have e2 : H1.1 = q + 2 := by omega
  have e3 : H2.1 = q + 3 := by omega
  have e4 : H3.1 = q + 4 := by omega
  have n1 := nl0_new (d := d) (H := H)
  have n2 := nl0_new (d := d) (H := H1)
  have n3 := nl0_new (d := d) (H := H2)
  have n4 := nl0_new (d := d) (H := H3)
  have r1 : jset (jset (jpush H (43, 3, jL [.int (zI 0), .null, .int (zI 0)])) H.1 (cAL 0 0 [])) q (3, 5, o3 0 (.ref (q + 1)) .null .null .null) = H1 := hH1.symm
  have r2 : jset (jset (jpush H1 (43, 3, jL [.int (zI 0), .null, .int (zI 0)])) H1.1 (cAL 0 0 [])) q (3, 5, o3 0 (.ref (q + 1)) (.ref (q + 2)) .null .null) = H2 := hH2.symm
  have r3 : jset (jset (jpush H2 (43, 3, jL [.int (zI 0), .null, .int (zI 0)])) H2.1 (cAL 0 0 [])) q (3, 5, o3 0 (.ref (q + 1)) (.ref (q + 2)) (.ref (q + 3)) .null) = H3 := hH3.symm
  have r4 : jset (jset (jpush H3 (43, 3, jL [.int (zI 0), .null, .int (zI 0)])) H3.1 (cAL 0 0 [])) q (3, 5, o3 0 (.ref (q + 1)) (.ref (q + 2)) (.ref (q + 3)) (.ref (q + 4))) = H4 := hH4.symm
  have fr : Fr H H4 (fun u => u = q) := ⟨by omega, by rw [w6, z6, y6, x6], fun u u0 u1 => by rw [w5 u u1 (by omega), z5 u u1 (by omega), y5 u u1 (by omega), x5 u u1 u0]⟩
  refine ⟨H4, ?_, fr, by omega, by omega, w3, ?_, ?_, ?_, ?_⟩
  · have rv : (jtRecv 3900).elem 3 = true := rfl
    rw [Y3900 H (jrecv_in h rv), F3900_0]
    rw [e1] at n1 r1
    rw [e2] at n2 r2
    rw [e3] at n3 r3
    rw [e4] at n4 r4
    rw [show cAL 0 0 [] = cAL 0 (zI 0) [] from rfl] at n1 n2 n3 n4 r1 r2 r3 r4
    have a1 : q ≠ q + 1 := by omega
    have a2 : q ≠ q + 2 := by omega
    have a3 : q ≠ q + 3 := by omega
    have a4 : q ≠ q + 4 := by omega
    simp (disch := first | assumption | omega | decide | exact okF_i | exact okF_r | exact okF_n | exact okF_j | rfl) only [jc_ref, rI_int, rR_ref, rR_null, rJ_long, ckR_ref, ckR_null, ckr_ref, ckr_null, ckW_int, ckW_ref, ckW_null, cI_ok, cR_ok, cR_null, cV_ok, cJ_ok, qH_eq, qD_in, aG_ref, aS_ref, aL_ref, pF_ref, cK_ref, cK_null, zI_lit, zJ_lit, zI_add, zI_sub, zI_mul, zI_neg, zI_eq, zI_lt, zI_le, Int.reduceLT, Int.reduceLE, Int.reduceAdd, Int.reduceSub, Int.reduceMul, Int.reduceNeg, Int.reduceEq, Int.reduceNe, reduceIte, jf_in, pFc_in, aGi, aGb, aSi, aLc_in, cKc_in, nA_in, jm_s1, jm_s2, jm_p1, jm_p2, jm_b, jn_b, jn_s, jn_p, jset_jset, jset_jpush2, ckR_is, ckr_is, rR_is, ckW_is, cR_is, obi2, ckW_int, eq_self, if_true, ref_null, if_false, ne_eq, not_true_eq_false, not_false_eq_true, decide_true, decide_false, decide_not, Bool.true_and, Bool.false_and, Bool.and_true, Bool.and_false, Bool.true_or, Bool.false_or, Bool.or_true, Bool.or_false, Bool.not_true, Bool.not_false, Bool.false_eq_true, bI_t, bI_f, Int.natCast_one, Int.cast_ofNat_Int, Int.natCast_zero, ju_self, ju_ne, n3, o3s_0, o3s_1, o3s_2, o3s_3, o3s_4, h, x3, y3, z3, e1, n1, r1, e2, n2, r2, e3, n3, r3, e4, n4, r4]
  · rw [w5 _ (by omega) (by omega), z5 _ (by omega) (by omega), y5 _ (by omega) (by omega), ← e1]; exact x4
  · rw [w5 _ (by omega) (by omega), z5 _ (by omega) (by omega), ← e2]; exact y4
  · rw [w5 _ (by omega) (by omega), ← e3]; exact z4
  · rw [← e4]; exact w4
/-- a reader, made -/
theorem c_reader (hm : jm H a = some (t, n, f)) (ht : t = 9 ∨ t = 15 ∨ t = 27 ∨ t = 29) (h3 : f 3 = .int (zI 0)) (h7 : ∃ v : Int32, f 7 = .int v) (hE : EnvS (Fz B H) (je H)) : ∃ f', M2 (d + 2) 8900 [.ref a, .ref tp, .int (zI z), .int (zI l), .ref sc] H = some (.inl none, jset H a (t, n, f')) ∧ RdO (jset H a (t, n, f')) a t n f' tp sc z l 0 ∧ (∃ v : Int32, f' 7 = .int v) ∧ (∃ w, f' 9 = .ref w) ∧ f' 10 = f 10 ∧ f' 11 = f 11 := by
  obtain ⟨w, w1, -⟩ := hE.2 15 (by omega) (by omega)
  have rv : (jtRecv 8900).elem t = true := by rcases ht with e | e | e | e <;> subst e <;> rfl
  have tg : (([9, 15, 27, 29] : List Nat).elem t && Nat.blt t 100) = true := by rcases ht with e | e | e | e <;> subst e <;> rfl
  have es : ∀ c, je (jset H a c) = je H := fun c => rfl
  refine ⟨ju (ju (ju (ju (ju f 9 (.ref w)) 0 (.ref tp)) 1 (.int (zI z))) 2 (.int (zI l))) 4 (.ref sc), ?_, ⟨jm_s1, ht, ?_, ?_, ?_, ?_, ju_self⟩, ?_, ?_, ?_, ?_⟩
  · rw [Y8900 H rfl rfl (jrecv_in hm rv), F8900_0]
    simp (disch := first | assumption | omega | decide | exact okF_i | exact okF_r | exact okF_n | exact okF_j | rfl) only [jc_ref, rI_int, rR_ref, rR_null, rJ_long, ckR_ref, ckR_null, ckr_ref, ckr_null, ckW_int, ckW_ref, ckW_null, cI_ok, cR_ok, cR_null, cV_ok, cJ_ok, qH_eq, qD_in, aG_ref, aS_ref, aL_ref, pF_ref, cK_ref, cK_null, zI_lit, zJ_lit, zI_add, zI_sub, zI_mul, zI_neg, zI_eq, zI_lt, zI_le, Int.reduceLT, Int.reduceLE, Int.reduceAdd, Int.reduceSub, Int.reduceMul, Int.reduceNeg, Int.reduceEq, Int.reduceNe, reduceIte, jf_in, pFc_in, aGi, aGb, aSi, aLc_in, cKc_in, nA_in, jm_s1, jm_s2, jm_p1, jm_p2, jm_b, jn_b, jn_s, jn_p, jset_jset, jset_jpush2, ckR_is, ckr_is, rR_is, ckW_is, cR_is, obi2, ckW_int, eq_self, if_true, ref_null, if_false, ne_eq, not_true_eq_false, not_false_eq_true, decide_true, decide_false, decide_not, Bool.true_and, Bool.false_and, Bool.and_true, Bool.and_false, Bool.true_or, Bool.false_or, Bool.or_true, Bool.or_false, Bool.not_true, Bool.not_false, Bool.false_eq_true, bI_t, bI_f, Int.natCast_one, Int.cast_ofNat_Int, Int.natCast_zero, ju_self, ju_ne, hm, w1]
  · rw [ju_ne (by decide), ju_ne (by decide), ju_ne (by decide), ju_self]
  · rw [ju_ne (by decide), ju_ne (by decide), ju_self]
  · rw [ju_ne (by decide), ju_self]
  · rw [ju_ne (by decide), ju_ne (by decide), ju_ne (by decide), ju_ne (by decide), ju_ne (by decide)]; exact h3
  · rw [ju_ne (by decide), ju_ne (by decide), ju_ne (by decide), ju_ne (by decide), ju_ne (by decide)]; exact h7
  · exact ⟨w, by rw [ju_ne (by decide), ju_ne (by decide), ju_ne (by decide), ju_ne (by decide), ju_self]⟩
  · rw [ju_ne (by decide), ju_ne (by decide), ju_ne (by decide), ju_ne (by decide), ju_ne (by decide)]
  · rw [ju_ne (by decide), ju_ne (by decide), ju_ne (by decide), ju_ne (by decide), ju_ne (by decide)]
end
