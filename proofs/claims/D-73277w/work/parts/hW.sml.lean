/-! the component's reader of schemas: a new table -/
-- jc_ref, rI_int, rR_ref, rR_null, rJ_long, ckR_ref, ckR_null, ckr_ref, ckr_null, ckW_int, ckW_ref, ckW_null, cI_ok, cR_ok, cR_null, cV_ok, cJ_ok, qH_eq, qD_in, aG_ref, aS_ref, aL_ref, pF_ref, cK_ref, cK_null, zI_lit, zJ_lit, zI_add, zI_sub, zI_mul, zI_neg, zI_eq, zI_lt, zI_le, Int.reduceLT, Int.reduceLE, Int.reduceAdd, Int.reduceSub, Int.reduceMul, Int.reduceNeg, Int.reduceEq, Int.reduceNe, reduceIte, jf_in, pFc_in, aGi, aGb, aSi, aLc_in, cKc_in, nA_in, jm_s1, jm_s2, jm_p1, jm_p2, jm_b, jn_b, jn_s, jn_p, jset_jset, jset_jpush2, ckR_is, ckr_is, rR_is, ckW_is, cR_is, obi2, ckW_int, eq_self, if_true, ref_null, if_false, ne_eq, not_true_eq_false, not_false_eq_true, decide_true, decide_false, decide_not, Bool.true_and, Bool.false_and, Bool.and_true, Bool.and_false, Bool.true_or, Bool.false_or, Bool.or_true, Bool.or_false, Bool.not_true, Bool.not_false, Bool.false_eq_true, bI_t, bI_f, Int.natCast_one, Int.cast_ofNat_Int, Int.natCast_zero, ju_self, ju_ne, n11, o11s_0, o11s_1, o11s_2, o11s_3 = jc_ref, rI_int, rR_ref, rR_null, rJ_long, ckR_ref, ckR_null, ckr_ref, ckr_null, ckW_int, ckW_ref, ckW_null, cI_ok, cR_ok, cR_null, cV_ok, cJ_ok, qH_eq, qD_in, aG_ref, aS_ref, aL_ref, pF_ref, cK_ref, cK_null, zI_lit, zJ_lit, zI_add, zI_sub, zI_mul, zI_neg, zI_eq, zI_lt, zI_le, Int.reduceLT, Int.reduceLE, Int.reduceAdd, Int.reduceSub, Int.reduceMul, Int.reduceNeg, Int.reduceEq, Int.reduceNe, reduceIte, jf_in, pFc_in, aGi, aGb, aSi, aLc_in, cKc_in, nA_in, jm_s1, jm_s2, jm_p1, jm_p2, jm_b, jn_b, jn_s, jn_p, jset_jset, jset_jpush2, ckR_is, ckr_is, rR_is, ckW_is, cR_is, obi2, ckW_int, eq_self, if_true, ref_null, if_false, ne_eq, not_true_eq_false, not_false_eq_true, decide_true, decide_false, decide_not, Bool.true_and, Bool.false_and, Bool.and_true, Bool.and_false, Bool.true_or, Bool.false_or, Bool.or_true, Bool.or_false, Bool.not_true, Bool.not_false, Bool.false_eq_true, bI_t, bI_f, Int.natCast_one, Int.cast_ofNat_Int, Int.natCast_zero, ju_self, ju_ne, n11, o11s_0, o11s_1, o11s_2, o11s_3
section
variable {d : Nat} {H H2 : AH} {a b w : Nat}
theorem ck_11900 (hm : jm H b = some (11, 4, o11 .null .null .null .null)) (hb : b + 1 = H.1) : ∃ H2, M2 (d + 2) 11900 [.ref b, .ref w] H = some (.inl none, H2) ∧ Fr H H2 (fun u => u = b) ∧ H2.1 = H.1 + 4 ∧ H2.2.1 = H.2.1 + 11 ∧ jm H2 b = some (11, 4, o11 (.ref w) (.ref (b + 1)) (.ref (b + 2)) (.ref (b + 3))) ∧ jm H2 (b + 1) = some (cAL 0 0 []) ∧ (∃ gd, jm H2 (b + 2) = some (1000, 4, aI gd) ∧ ∀ c, 0 ≤ c → c < 4 → gd c = -1) ∧ jm H2 (b + 3) = some (cBS 1 fun _ => false) := by
  have rv : (jtRecv 11900).elem 11 = true := rfl
  -- the list
  obtain ⟨HA, hHA⟩ : ∃ HA, HA = jpush H (43, 3, jL [.int (zI 0), .null, .int (zI 0)]) := ⟨_, rfl⟩
  have mA : jm HA (b + 1) = some (43, 3, jL [.int (zI 0), .null, .int (zI 0)]) := by rw [hHA, hb]; exact jm_p1
  have n1 := h_new (d := d) mA
  obtain ⟨H1, hH1⟩ : ∃ H1, H1 = jset (jset HA (b + 1) (cAL 0 0 [])) b (11, 4, o11 .null (.ref (b + 1)) .null .null) := ⟨_, rfl⟩
  have x1 : H1.1 = b + 2 := by rw [hH1, hHA]; show H.1 + 1 = _; omega
  have x2 : H1.2.1 = H.2.1 + 3 := by rw [hH1, hHA]; rfl
  have x3 : jm (jset HA (b + 1) (cAL 0 0 [])) b = some (11, 4, o11 .null .null .null .null) := by rw [jm_s2 (by omega), hHA, jm_p2 (by omega)]; exact hm
  have x4 : jm H1 b = some (11, 4, o11 .null (.ref (b + 1)) .null .null) := by rw [hH1]; exact jm_s1
  have x5 : jm H1 (b + 1) = some (cAL 0 0 []) := by rw [hH1, jm_s2 (by omega)]; exact jm_s1
  have f1 : Fr H H1 (fun u => u = b) := by rw [hH1, hHA]; exact Fr.new Fr.rf (((Fr.push).tr (Fr.set (Or.inr (by omega)))).tr (Fr.set (Or.inl rfl)))
  -- the array
  obtain ⟨HB, hHB⟩ : ∃ HB, HB = jpush H1 (1000, 4, fun _ => .int (zI 0)) := ⟨_, rfl⟩
  obtain ⟨H2, hH2⟩ : ∃ H2, H2 = jset HB b (11, 4, o11 .null (.ref (b + 1)) (.ref (b + 2)) .null) := ⟨_, rfl⟩
  have y1 : H2.1 = b + 3 := by rw [hH2, hHB]; show H1.1 + 1 = _; omega
  have y2 : H2.2.1 = H1.2.1 + 4 := by rw [hH2, hHB]; rfl
  have y3 : jm HB b = some (11, 4, o11 .null (.ref (b + 1)) .null .null) := by rw [hHB, jm_p2 (by omega)]; exact x4
  have y4 : jm H2 b = some (11, 4, o11 .null (.ref (b + 1)) (.ref (b + 2)) .null) := by rw [hH2]; exact jm_s1
  have y5 : jm H2 (b + 2) = some (1000, 4, aI (fun _ => 0)) := by rw [hH2, jm_s2 (by omega), hHB, ← x1]; exact jm_p1
  have f2 : Fr H1 H2 (fun u => u = b) := by rw [hH2, hHB]; exact Fr.push.tr (Fr.set rfl)
  -- the set
  obtain ⟨HC, hHC⟩ : ∃ HC, HC = jpush H2 (44, 3, jL [.null, .int (zI 0), .int (zI 0)]) := ⟨_, rfl⟩
  have mC : jm HC (b + 3) = some (44, 3, jL [.null, .int (zI 0), .int (zI 0)]) := by rw [hHC, ← y1]; exact jm_p1
  have n3 := h_bnew (d := d) mC
  obtain ⟨HD, hHD⟩ : ∃ HD, HD = jset (jburn HC 1 1) (b + 3) (cBS 1 fun _ => false) := ⟨_, rfl⟩
  rw [← hHD] at n3
  obtain ⟨H3, hH3⟩ : ∃ H3, H3 = jset HD b (11, 4, o11 (.ref w) (.ref (b + 1)) (.ref (b + 2)) (.ref (b + 3))) := ⟨_, rfl⟩
  have z1 : H3.1 = b + 5 := by rw [hH3, hHD, hHC]; show H2.1 + 1 + 1 = _; omega
  have z2 : H3.2.1 = H2.2.1 + 4 := by rw [hH3, hHD, hHC]; rfl
  have z3 : jm HD b = some (11, 4, o11 .null (.ref (b + 1)) (.ref (b + 2)) .null) := by rw [hHD, jm_s2 (by omega), jm_b, hHC, jm_p2 (by omega)]; exact y4
  have z4 : jm H3 b = some (11, 4, o11 (.ref w) (.ref (b + 1)) (.ref (b + 2)) (.ref (b + 3))) := by rw [hH3]; exact jm_s1
  have z5 : jm H3 (b + 3) = some (cBS 1 fun _ => false) := by rw [hH3, jm_s2 (by omega), hHD]; exact jm_s1
  have f3 : Fr H2 H3 (fun u => u = b) := by rw [hH3, hHD, hHC]; exact Fr.new Fr.rf ((((Fr.push).tr Fr.burn).tr (Fr.set (Or.inr (by omega)))).tr (Fr.set (Or.inl rfl)))
  have z6 : jm H3 (b + 2) = some (1000, 4, aI (fun _ => 0)) := (f3.2.2 _ (by omega) (by omega)).trans y5
  have fi := c_fill (d := d) (v := -1) z6 (by omega)
  obtain ⟨H4, hH4⟩ : ∃ H4, H4 = jset H3 (b + 2) (1000, 4, aI (fillZ (fun _ => 0) (4 : Nat) (-1))) := ⟨_, rfl⟩
  rw [← hH4] at fi
  have f4 : Fr H3 H4 (fun u => u = b + 2) := by rw [hH4]; exact Fr.set rfl
  have w1 : H4.1 = b + 5 := by rw [hH4]; exact z1
  have w2 : H4.2.1 = H3.2.1 := by rw [hH4]; rfl
  refine ⟨H4, ?_, ((f1.tr f2).tr f3).new (f4.mono fun u _ z => Or.inr (by omega)), by omega, by omega, (f4.2.2 _ (by omega) (by omega)).trans z4, ?_, ⟨_, by rw [hH4]; exact jm_s1, fun c c0 c1 => by unfold fillZ; rw [if_pos (by omega)]⟩, (f4.2.2 _ (by omega) (by omega)).trans z5⟩
  · have q4 : (zI 4).toNatClampNeg = 4 := by decide
    have e1 : H.1 = b + 1 := hb.symm
    have eA : HA.1 = b + 2 := by rw [hHA]; show H.1 + 1 = _; omega
    have eB : HB.1 = b + 3 := by rw [hHB]; show H1.1 + 1 = _; omega
    have a1 : b ≠ b + 1 := by omega
    have a3 : b ≠ b + 3 := by omega
    rw [Y11900 H rfl (jrecv_in hm rv), F11900_0]
    rw [show cAL 0 0 [] = cAL 0 (zI 0) [] from rfl] at n1 hH1
    have xA : jm HA b = some (11, 4, o11 .null .null .null .null) := by rw [hHA, jm_p2 (by omega)]; exact hm
    have xC : jm HC b = some (11, 4, o11 .null (.ref (b + 1)) (.ref (b + 2)) .null) := by rw [hHC, jm_p2 (by omega)]; exact y4
    simp (disch := first | assumption | omega | decide | exact okF_i | exact okF_r | exact okF_n | exact okF_j | rfl) only [jc_ref, rI_int, rR_ref, rR_null, rJ_long, ckR_ref, ckR_null, ckr_ref, ckr_null, ckW_int, ckW_ref, ckW_null, cI_ok, cR_ok, cR_null, cV_ok, cJ_ok, qH_eq, qD_in, aG_ref, aS_ref, aL_ref, pF_ref, cK_ref, cK_null, zI_lit, zJ_lit, zI_add, zI_sub, zI_mul, zI_neg, zI_eq, zI_lt, zI_le, Int.reduceLT, Int.reduceLE, Int.reduceAdd, Int.reduceSub, Int.reduceMul, Int.reduceNeg, Int.reduceEq, Int.reduceNe, reduceIte, jf_in, pFc_in, aGi, aGb, aSi, aLc_in, cKc_in, nA_in, jm_s1, jm_s2, jm_p1, jm_p2, jm_b, jn_b, jn_s, jn_p, jset_jset, jset_jpush2, ckR_is, ckr_is, rR_is, ckW_is, cR_is, obi2, ckW_int, eq_self, if_true, ref_null, if_false, ne_eq, not_true_eq_false, not_false_eq_true, decide_true, decide_false, decide_not, Bool.true_and, Bool.false_and, Bool.and_true, Bool.and_false, Bool.true_or, Bool.false_or, Bool.or_true, Bool.or_false, Bool.not_true, Bool.not_false, Bool.false_eq_true, bI_t, bI_f, Int.natCast_one, Int.cast_ofNat_Int, Int.natCast_zero, ju_self, ju_ne, n11, o11s_0, o11s_1, o11s_2, o11s_3, e1, ← hHA, n1, xA, ← hH1, x1, eA, eB, q4, ← hHB, y3, ← hH2, y1, ← hHC, n3, xC, z3, ← hH3, z4, o11_0, o11_1, o11_2, o11_3, fi]

  · rw [f4.2.2 _ (by omega) (by omega), f3.2.2 _ (by omega) (by omega), f2.2.2 _ (by omega) (by omega)]; exact x5
end
