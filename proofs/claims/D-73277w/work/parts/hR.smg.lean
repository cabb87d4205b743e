/-! the component's reader of schemas: a reference's key, found -/
-- jc_ref, rI_int, rR_ref, rR_null, rJ_long, ckR_ref, ckR_null, ckr_ref, ckr_null, ckW_int, ckW_ref, ckW_null, cI_ok, cR_ok, cR_null, cV_ok, cJ_ok, qH_eq, qD_in, aG_ref, aS_ref, aL_ref, pF_ref, cK_ref, cK_null, zI_lit, zJ_lit, zI_add, zI_sub, zI_mul, zI_neg, zI_eq, zI_lt, zI_le, Int.reduceLT, Int.reduceLE, Int.reduceAdd, Int.reduceSub, Int.reduceMul, Int.reduceNeg, Int.reduceEq, Int.reduceNe, reduceIte, jf_in, pFc_in, aGi, aGb, aSi, aLc_in, cKc_in, nA_in, jm_s1, jm_s2, jm_p1, jm_p2, jm_b, jn_b, jn_s, jn_p, jset_jset, jset_jpush2, ckR_is, ckr_is, rR_is, ckW_is, cR_is, obi2, ckW_int, eq_self, if_true, ref_null, if_false, ne_eq, not_true_eq_false, not_false_eq_true, decide_true, decide_false, decide_not, Bool.true_and, Bool.false_and, Bool.and_true, Bool.and_false, Bool.true_or, Bool.false_or, Bool.or_true, Bool.or_false, Bool.not_true, Bool.not_false, Bool.false_eq_true, bI_t, bI_f, Int.natCast_one, Int.cast_ofNat_Int, Int.natCast_zero, ju_self, ju_ne = jc_ref, rI_int, rR_ref, rR_null, rJ_long, ckR_ref, ckR_null, ckr_ref, ckr_null, ckW_int, ckW_ref, ckW_null, cI_ok, cR_ok, cR_null, cV_ok, cJ_ok, qH_eq, qD_in, aG_ref, aS_ref, aL_ref, pF_ref, cK_ref, cK_null, zI_lit, zJ_lit, zI_add, zI_sub, zI_mul, zI_neg, zI_eq, zI_lt, zI_le, Int.reduceLT, Int.reduceLE, Int.reduceAdd, Int.reduceSub, Int.reduceMul, Int.reduceNeg, Int.reduceEq, Int.reduceNe, reduceIte, jf_in, pFc_in, aGi, aGb, aSi, aLc_in, cKc_in, nA_in, jm_s1, jm_s2, jm_p1, jm_p2, jm_b, jn_b, jn_s, jn_p, jset_jset, jset_jpush2, ckR_is, ckr_is, rR_is, ckW_is, cR_is, obi2, ckW_int, eq_self, if_true, ref_null, if_false, ne_eq, not_true_eq_false, not_false_eq_true, decide_true, decide_false, decide_not, Bool.true_and, Bool.false_and, Bool.and_true, Bool.and_false, Bool.true_or, Bool.false_or, Bool.or_true, Bool.or_false, Bool.not_true, Bool.not_false, Bool.false_eq_true, bI_t, bI_f, Int.natCast_one, Int.cast_ofNat_Int, Int.natCast_zero, ju_self, ju_ne
section
variable {d : Nat} {H H2 : AH} {a b e e1 e2 q n tp c s c2 s2 tg : Nat} {a1 a2 b1 b2 m ln t tt but v one two o : Int} {B P C : Nat → Prop} {S nm g : Int → Int} {bt : Int → Nat} {z l p : Int} {x y : Value} {f : Nat → Value} {F : Nat → Option Cl}
theorem key_rg (W : HsW S) {k : Int} (k0 : 0 ≤ k) (k1 : k < S 1) : (0 ≤ S (40 + k) ∧ S (40 + k) < 4) ∧ (0 ≤ S (46 + k) ∧ S (46 + k) < 4) ∧ -1 ≤ S (52 + k) ∧ S (52 + k) < 4 := by
  obtain ⟨⟨x1, x2⟩, ⟨x3, x4⟩, x5, x6, -⟩ := W.2.2.1 k k0 k1
  have b0 := W.1.2.1
  have bc := W.1.2.2.1 (S (40 + k)) x1 (by omega)
  omega
/-- the key of such a table, of such columns -/
theorem rs_keyOf (hM : SchM H a q bt (S 0) (S 0) ln S (nmS nm)) (hU : ∃ u n f, je H 5 = .ref u ∧ Fz (Bs a q bt (S 0)) H u = some (159, n, f)) (he : ColF (Fz (Bs a q bt (S 0)) H) e one two) (t0 : 0 ≤ t) (t1 : t < 4) (a10 : 0 ≤ one) (a11 : one < 4) (a20 : -1 ≤ two) (a21 : two < 4) : M2 (d + 9) 3000 [.ref q, .int (zI t), .ref e] H = some (.inl (some (.int (zI (keyOfH S t one two)))), H) := by
  obtain ⟨o, h1, h2, h3, h4, h5, h6, h7, W⟩ := id hM
  have b1 := W.1.2.2.2.1
  have rv : (jtRecv 3000).elem 3 = true := rfl
  have sz := h3.sz (d := d + 7)
  have key : ∀ (m : Nat) (i : Int), 0 ≤ i → i + m = S 1 → G2 (d + 8) 3000 2 [.ref q, .int (zI t), .ref e, .int (zI i)] [] H = some (.inl (some (.int (zI (fnd (fun k => decide (S (40 + k) = t ∧ S (46 + k) = one ∧ S (52 + k) = two)) m i)))), H) := by
    intro m
    induction m with
    | zero =>
      intro i i0 hi
      rw [F3000_2]
      have le : S 1 ≤ i := by omega
      simp (disch := first | assumption | omega | decide | exact okF_i | exact okF_r | exact okF_n | exact okF_j | rfl) only [jc_ref, rI_int, rR_ref, rR_null, rJ_long, ckR_ref, ckR_null, ckr_ref, ckr_null, ckW_int, ckW_ref, ckW_null, cI_ok, cR_ok, cR_null, cV_ok, cJ_ok, qH_eq, qD_in, aG_ref, aS_ref, aL_ref, pF_ref, cK_ref, cK_null, zI_lit, zJ_lit, zI_add, zI_sub, zI_mul, zI_neg, zI_eq, zI_lt, zI_le, Int.reduceLT, Int.reduceLE, Int.reduceAdd, Int.reduceSub, Int.reduceMul, Int.reduceNeg, Int.reduceEq, Int.reduceNe, reduceIte, jf_in, pFc_in, aGi, aGb, aSi, aLc_in, cKc_in, nA_in, jm_s1, jm_s2, jm_p1, jm_p2, jm_b, jn_b, jn_s, jn_p, jset_jset, jset_jpush2, ckR_is, ckr_is, rR_is, ckW_is, cR_is, obi2, ckW_int, eq_self, if_true, ref_null, if_false, ne_eq, not_true_eq_false, not_false_eq_true, decide_true, decide_false, decide_not, Bool.true_and, Bool.false_and, Bool.and_true, Bool.and_false, Bool.true_or, Bool.false_or, Bool.or_true, Bool.or_false, Bool.not_true, Bool.not_false, Bool.false_eq_true, bI_t, bI_f, Int.natCast_one, Int.cast_ofNat_Int, Int.natCast_zero, ju_self, ju_ne, o3_0, o3_1, o3_2, o3_3, o3_4, h1, sz]
      try rw [if_pos le]
      rfl
    | succ m ih =>
      intro i i0 hi
      have le : ¬ S 1 ≤ i := by omega
      obtain ⟨b, hk, gt⟩ := h3.gt i0 (by omega) (by omega)
      have gt' := gt (d + 7)
      obtain ⟨r1, r2, r3⟩ := key_rg W i0 (by omega)
      have ik := c_isKey (d := d + 1) (t := t) Fz_F hU hk he (by omega) (by omega) (by omega) (by omega) a10 a11 a20 a21 r2.1 r2.2 r3.1 r3.2
      obtain ⟨ek, mk, -⟩ := hk
      replace mk := Fz_F.m mk
      have e12 : ([12, 13] : List Nat).elem 12 = true := rfl
      show _ = (some (.inl (some (.int (zI (if decide (S (40 + i) = t ∧ S (46 + i) = one ∧ S (52 + i) = two) = true then i else fnd (fun k => decide (S (40 + k) = t ∧ S (46 + k) = one ∧ S (52 + k) = two)) m (i + 1))))), H) : Rz)
      by_cases c : S (40 + i) = t ∧ S (46 + i) = one ∧ S (52 + i) = two
      · rw [decide_eq_true c, bZ_t] at ik
        rw [decide_eq_true c, if_pos rfl, F3000_2]
        simp (disch := first | assumption | omega | decide | exact okF_i | exact okF_r | exact okF_n | exact okF_j | rfl) only [jc_ref, rI_int, rR_ref, rR_null, rJ_long, ckR_ref, ckR_null, ckr_ref, ckr_null, ckW_int, ckW_ref, ckW_null, cI_ok, cR_ok, cR_null, cV_ok, cJ_ok, qH_eq, qD_in, aG_ref, aS_ref, aL_ref, pF_ref, cK_ref, cK_null, zI_lit, zJ_lit, zI_add, zI_sub, zI_mul, zI_neg, zI_eq, zI_lt, zI_le, Int.reduceLT, Int.reduceLE, Int.reduceAdd, Int.reduceSub, Int.reduceMul, Int.reduceNeg, Int.reduceEq, Int.reduceNe, reduceIte, jf_in, pFc_in, aGi, aGb, aSi, aLc_in, cKc_in, nA_in, jm_s1, jm_s2, jm_p1, jm_p2, jm_b, jn_b, jn_s, jn_p, jset_jset, jset_jpush2, ckR_is, ckr_is, rR_is, ckW_is, cR_is, obi2, ckW_int, eq_self, if_true, ref_null, if_false, ne_eq, not_true_eq_false, not_false_eq_true, decide_true, decide_false, decide_not, Bool.true_and, Bool.false_and, Bool.and_true, Bool.and_false, Bool.true_or, Bool.false_or, Bool.or_true, Bool.or_false, Bool.not_true, Bool.not_false, Bool.false_eq_true, bI_t, bI_f, Int.natCast_one, Int.cast_ofNat_Int, Int.natCast_zero, ju_self, ju_ne, o3_0, o3_1, o3_2, o3_3, o3_4, h1, sz]
        try rw [if_neg le]
        simp (disch := first | assumption | omega | decide | exact okF_i | exact okF_r | exact okF_n | exact okF_j | rfl) only [jc_ref, rI_int, rR_ref, rR_null, rJ_long, ckR_ref, ckR_null, ckr_ref, ckr_null, ckW_int, ckW_ref, ckW_null, cI_ok, cR_ok, cR_null, cV_ok, cJ_ok, qH_eq, qD_in, aG_ref, aS_ref, aL_ref, pF_ref, cK_ref, cK_null, zI_lit, zJ_lit, zI_add, zI_sub, zI_mul, zI_neg, zI_eq, zI_lt, zI_le, Int.reduceLT, Int.reduceLE, Int.reduceAdd, Int.reduceSub, Int.reduceMul, Int.reduceNeg, Int.reduceEq, Int.reduceNe, reduceIte, jf_in, pFc_in, aGi, aGb, aSi, aLc_in, cKc_in, nA_in, jm_s1, jm_s2, jm_p1, jm_p2, jm_b, jn_b, jn_s, jn_p, jset_jset, jset_jpush2, ckR_is, ckr_is, rR_is, ckW_is, cR_is, obi2, ckW_int, eq_self, if_true, ref_null, if_false, ne_eq, not_true_eq_false, not_false_eq_true, decide_true, decide_false, decide_not, Bool.true_and, Bool.false_and, Bool.and_true, Bool.and_false, Bool.true_or, Bool.false_or, Bool.or_true, Bool.or_false, Bool.not_true, Bool.not_false, Bool.false_eq_true, bI_t, bI_f, Int.natCast_one, Int.cast_ofNat_Int, Int.natCast_zero, ju_self, ju_ne, o3_0, o3_1, o3_2, o3_3, o3_4, h1, sz, gt', mk, ik]
      · rw [decide_eq_false c, bZ_f] at ik
        rw [decide_eq_false c, if_neg (by decide), ← ih (i + 1) (by omega) (by omega), F3000_2]
        simp (disch := first | assumption | omega | decide | exact okF_i | exact okF_r | exact okF_n | exact okF_j | rfl) only [jc_ref, rI_int, rR_ref, rR_null, rJ_long, ckR_ref, ckR_null, ckr_ref, ckr_null, ckW_int, ckW_ref, ckW_null, cI_ok, cR_ok, cR_null, cV_ok, cJ_ok, qH_eq, qD_in, aG_ref, aS_ref, aL_ref, pF_ref, cK_ref, cK_null, zI_lit, zJ_lit, zI_add, zI_sub, zI_mul, zI_neg, zI_eq, zI_lt, zI_le, Int.reduceLT, Int.reduceLE, Int.reduceAdd, Int.reduceSub, Int.reduceMul, Int.reduceNeg, Int.reduceEq, Int.reduceNe, reduceIte, jf_in, pFc_in, aGi, aGb, aSi, aLc_in, cKc_in, nA_in, jm_s1, jm_s2, jm_p1, jm_p2, jm_b, jn_b, jn_s, jn_p, jset_jset, jset_jpush2, ckR_is, ckr_is, rR_is, ckW_is, cR_is, obi2, ckW_int, eq_self, if_true, ref_null, if_false, ne_eq, not_true_eq_false, not_false_eq_true, decide_true, decide_false, decide_not, Bool.true_and, Bool.false_and, Bool.and_true, Bool.and_false, Bool.true_or, Bool.false_or, Bool.or_true, Bool.or_false, Bool.not_true, Bool.not_false, Bool.false_eq_true, bI_t, bI_f, Int.natCast_one, Int.cast_ofNat_Int, Int.natCast_zero, ju_self, ju_ne, o3_0, o3_1, o3_2, o3_3, o3_4, h1, sz]
        try rw [if_neg le]
        simp (disch := first | assumption | omega | decide | exact okF_i | exact okF_r | exact okF_n | exact okF_j | rfl) only [jc_ref, rI_int, rR_ref, rR_null, rJ_long, ckR_ref, ckR_null, ckr_ref, ckr_null, ckW_int, ckW_ref, ckW_null, cI_ok, cR_ok, cR_null, cV_ok, cJ_ok, qH_eq, qD_in, aG_ref, aS_ref, aL_ref, pF_ref, cK_ref, cK_null, zI_lit, zJ_lit, zI_add, zI_sub, zI_mul, zI_neg, zI_eq, zI_lt, zI_le, Int.reduceLT, Int.reduceLE, Int.reduceAdd, Int.reduceSub, Int.reduceMul, Int.reduceNeg, Int.reduceEq, Int.reduceNe, reduceIte, jf_in, pFc_in, aGi, aGb, aSi, aLc_in, cKc_in, nA_in, jm_s1, jm_s2, jm_p1, jm_p2, jm_b, jn_b, jn_s, jn_p, jset_jset, jset_jpush2, ckR_is, ckr_is, rR_is, ckW_is, cR_is, obi2, ckW_int, eq_self, if_true, ref_null, if_false, ne_eq, not_true_eq_false, not_false_eq_true, decide_true, decide_false, decide_not, Bool.true_and, Bool.false_and, Bool.and_true, Bool.and_false, Bool.true_or, Bool.false_or, Bool.or_true, Bool.or_false, Bool.not_true, Bool.not_false, Bool.false_eq_true, bI_t, bI_f, Int.natCast_one, Int.cast_ofNat_Int, Int.natCast_zero, ju_self, ju_ne, o3_0, o3_1, o3_2, o3_3, o3_4, h1, sz, gt', mk, ik]
  have k0 := key (S 1).toNat 0 (Int.le_refl _) (by omega)
  rw [Y3000 H rfl (jrecv_in h1 rv), F3000_0]
  exact k0
theorem keyOf_rg : -1 ≤ keyOfH S t one two := by
  have := fnd_rg (f := fun k => decide (S (40 + k) = t ∧ S (46 + k) = one ∧ S (52 + k) = two)) (S 1).toNat 0
  unfold keyOfH
  omega
theorem rk_tail (h : RdC (Bs a q bt (S 0)) H a 9 n tp q g z l x y p) (hM : SchM H a q bt (S 0) (S 0) ln S (nmS nm)) (he : ColF (Fz (Bs a q bt (S 0)) H) e one two) (t0 : 0 ≤ o) (t1 : o < 4) (a10 : 0 ≤ one) (a11 : one < 4) (a20 : -1 ≤ two) (a21 : two < 4) :
    CR (if keyOfH S o one two < 0 then .error (erx g z l p 3) else .ok (keyOfH S o one two, nxt g z l p)) (zpR (jf (jc H (.ref a)) [9, 15, 27, 29] 4) (fun r4 => zcI (M2 (d + 9) 3000 [r4, .int (zI o), .ref e] H) (fun x5 h6 => if x5 = (-1) then (zcV (MvH (d + 9) 9114 [.ref a, .int 0, .int 3] h6) (fun h8 => zcV (MvH (d + 9) 9120 [.ref a] h8) (fun h10 => some (.inl (some (.int x5)), h10)) ()) ()) else (zcV (MvH (d + 9) 9114 [.ref a, .int 1, .int 3] h6) (fun h12 => zcV (MvH (d + 9) 9120 [.ref a] h12) (fun h14 => some (.inl (some (.int x5)), h14)) ()) ())) ()) ()) H (fun u => u = a) 4 31 (fun v w H2 => w = some (.int (zI v.1)) ∧ RdC (Bs a q bt (S 0)) H2 a 9 n tp q g z l x y v.2) := by
  obtain ⟨f, mm, -, f4, al⟩ := rdc9 h
  obtain ⟨-, mn, -, -, -, -, -, mg, -⟩ := mvR h
  have ko := rs_keyOf (d := d) hM h.1.2.2.2.2.1.2.2 he t0 t1 a10 a11 a20 a21
  have rg := keyOf_rg (S := S) (t := o) (one := one) (two := two)
  have r2 : keyOfH S o one two ≤ 1000 := by
    have := fnd_rg (f := fun k => decide (S (40 + k) = o ∧ S (46 + k) = one ∧ S (52 + k) = two)) (S 1).toNat 0
    have b1 := hM.2.2.2.2.2.2.2.2.1.2.2.2.1
    unfold keyOfH
    omega
  generalize keyOfH S o one two = v at ko rg r2 ⊢
  have nd := fun b => rc_need (d := d + 4) h (b := b) (k := 3) (by omega) (by omega)
  by_cases c : v < 0
  · have ev : v = -1 := by omega
    subst ev
    have n1 := nd false
    rw [if_neg (by decide), bZ_f] at n1
    obtain ⟨H2, r1, r2, r3, r4, r5⟩ := n1
    have r1' := (mn (d + 9) _ _).trans r1
    rw [if_pos c]
    refine ⟨H2, r2.mono fun _ _ u => u.elim, by omega, by omega, H.1, ?_, r5⟩
    simp (disch := first | assumption | omega | decide | exact okF_i | exact okF_r | exact okF_n | exact okF_j | rfl) only [jc_ref, rI_int, rR_ref, rR_null, rJ_long, ckR_ref, ckR_null, ckr_ref, ckr_null, ckW_int, ckW_ref, ckW_null, cI_ok, cR_ok, cR_null, cV_ok, cJ_ok, qH_eq, qD_in, aG_ref, aS_ref, aL_ref, pF_ref, cK_ref, cK_null, zI_lit, zJ_lit, zI_add, zI_sub, zI_mul, zI_neg, zI_eq, zI_lt, zI_le, Int.reduceLT, Int.reduceLE, Int.reduceAdd, Int.reduceSub, Int.reduceMul, Int.reduceNeg, Int.reduceEq, Int.reduceNe, reduceIte, jf_in, pFc_in, aGi, aGb, aSi, aLc_in, cKc_in, nA_in, jm_s1, jm_s2, jm_p1, jm_p2, jm_b, jn_b, jn_s, jn_p, jset_jset, jset_jpush2, ckR_is, ckr_is, rR_is, ckW_is, cR_is, obi2, ckW_int, eq_self, if_true, ref_null, if_false, ne_eq, not_true_eq_false, not_false_eq_true, decide_true, decide_false, decide_not, Bool.true_and, Bool.false_and, Bool.and_true, Bool.and_false, Bool.true_or, Bool.false_or, Bool.or_true, Bool.or_false, Bool.not_true, Bool.not_false, Bool.false_eq_true, bI_t, bI_f, Int.natCast_one, Int.cast_ofNat_Int, Int.natCast_zero, ju_self, ju_ne, mm, f4, ko, r1', cV_th]
  · have n1 := nd true
    rw [if_pos rfl, bZ_t] at n1
    have r1' := (mn (d + 9) _ _).trans n1
    obtain ⟨H2, g1, g2, g3, g4, g5⟩ := rc_go (d := d + 7) h
    have g1' := (mg (d + 9)).trans g1
    have nv : ¬ v = -1 := by omega
    rw [if_neg c]
    refine ⟨H2, g2, g3, g4, _, ?_, rfl, g5⟩
    simp (disch := first | assumption | omega | decide | exact okF_i | exact okF_r | exact okF_n | exact okF_j | rfl) only [jc_ref, rI_int, rR_ref, rR_null, rJ_long, ckR_ref, ckR_null, ckr_ref, ckr_null, ckW_int, ckW_ref, ckW_null, cI_ok, cR_ok, cR_null, cV_ok, cJ_ok, qH_eq, qD_in, aG_ref, aS_ref, aL_ref, pF_ref, cK_ref, cK_null, zI_lit, zJ_lit, zI_add, zI_sub, zI_mul, zI_neg, zI_eq, zI_lt, zI_le, Int.reduceLT, Int.reduceLE, Int.reduceAdd, Int.reduceSub, Int.reduceMul, Int.reduceNeg, Int.reduceEq, Int.reduceNe, reduceIte, jf_in, pFc_in, aGi, aGb, aSi, aLc_in, cKc_in, nA_in, jm_s1, jm_s2, jm_p1, jm_p2, jm_b, jn_b, jn_s, jn_p, jset_jset, jset_jpush2, ckR_is, ckr_is, rR_is, ckW_is, cR_is, obi2, ckW_int, eq_self, if_true, ref_null, if_false, ne_eq, not_true_eq_false, not_false_eq_true, decide_true, decide_false, decide_not, Bool.true_and, Bool.false_and, Bool.and_true, Bool.and_false, Bool.true_or, Bool.false_or, Bool.or_true, Bool.or_false, Bool.not_true, Bool.not_false, Bool.false_eq_true, bI_t, bI_f, Int.natCast_one, Int.cast_ofNat_Int, Int.natCast_zero, ju_self, ju_ne, mm, f4, ko, nv, r1', g1']
theorem rs_refKey (h : RdC (Bs a q bt (S 0)) H a 9 n tp q g z l x y p) (hM : SchM H a q bt (S 0) (S 0) ln S (nmS nm)) (t0 : 0 ≤ o) (t1 : o < S 0) (w0 : -1 ≤ two) (w4 : two < 4) :
    CR (refK g z l S nm two o p) (M2 (d + 10) 9005 [.ref a, .int (zI o), .int (zI (if two < 0 then 1 else 2))] H) H (fun u => u = a) 30 300 (fun v w H2 => w = some (.int (zI v.1)) ∧ RdC (Bs a q bt (S 0)) H2 a 9 n tp q g z l x y v.2) := by
  obtain ⟨f, mm, -, f4, al⟩ := rdc9 h
  have rv : (jtRecv 9005).elem 9 = true := rfl
  have W := hM.2.2.2.2.2.2.2.2
  have b0 := W.1.2.1
  have bc := W.1.2.2.1 o t0 (by omega)
  have nb : ∀ u, H.1 ≤ u → ¬ Bs a q bt (S 0) u := fun u hu hb => by have := h.2.2.1 u hb; omega
  rw [Y9005 H (jrecv_in mm rv), F9005_0]
  unfold refK
  by_cases ct : two < 0
  · have e12 : (if two < 0 then (1 : Int) else 2) = 1 := if_pos ct
    rw [e12, if_pos ct, eb_ok]
    have ek : ∀ c : Int, (if two < 0 then keyOfH S o c (-1) else if o = c then -1 else keyOfH S o o c) = keyOfH S o c (-1) := fun c => if_pos ct
    simp only [ek]
    have q1 : (zI 1).toNatClampNeg = 1 := by decide
    obtain ⟨H1, hH1⟩ : ∃ H1, H1 = jpush H (1000, 1, fun _ => .int (zI 0)) := ⟨_, rfl⟩
    have m1 : jm H1 H.1 = some (1000, 1, aI (fun _ => 0)) := by rw [hH1]; exact jm_p1
    have f1 : Fr H H1 (fun _ => False) := by rw [hH1]; exact Fr.push
    have n1 : H1.1 = H.1 + 1 ∧ H1.2.1 = H.2.1 + 1 := by rw [hH1]; exact ⟨rfl, rfl⟩
    have h1 : RdC (fun u => Bs a q bt (S 0) u ∨ u = H.1) H1 a 9 n tp q g z l x y p := h.more f1 (fun _ _ e => e.elim) (fun e => e) (fun u hu => hu.elim Or.inl fun e => Or.inr (by omega)) fun u hu => Or.inl hu
    have M1 := hM.fr (f1.mono fun _ _ z => z.elim)
    obtain ⟨-, -, -, -, -, -, -, -, mh, -⟩ := mvR h1
    obtain ⟨H2, d1, d2, d3, d4⟩ := rc_hold (d := d + 2) (but := -1) h1 (M1.p (Int.le_refl _)) (by omega) t0 t1 bc.1 (by omega) (by omega)
    rw [hold_col] at d4
    show CR (eb (colP g z l S nm o p) _) _ _ _ _ _ _
    cases hc : colP g z l S nm o p with
    | error er =>
      rw [hc] at d4
      obtain ⟨u, r5, r6⟩ := d4
      have r5' := (mh (d + 9) _ _).trans r5
      rw [eb_er]
      refine ⟨H2, (f1.tr d1).mono fun _ _ z => z.elim, by omega, by omega, u, ?_, r6⟩
      simp (disch := first | assumption | omega | decide | exact okF_i | exact okF_r | exact okF_n | exact okF_j | rfl) only [jc_ref, rI_int, rR_ref, rR_null, rJ_long, ckR_ref, ckR_null, ckr_ref, ckr_null, ckW_int, ckW_ref, ckW_null, cI_ok, cR_ok, cR_null, cV_ok, cJ_ok, qH_eq, qD_in, aG_ref, aS_ref, aL_ref, pF_ref, cK_ref, cK_null, zI_lit, zJ_lit, zI_add, zI_sub, zI_mul, zI_neg, zI_eq, zI_lt, zI_le, Int.reduceLT, Int.reduceLE, Int.reduceAdd, Int.reduceSub, Int.reduceMul, Int.reduceNeg, Int.reduceEq, Int.reduceNe, reduceIte, jf_in, pFc_in, aGi, aGb, aSi, aLc_in, cKc_in, nA_in, jm_s1, jm_s2, jm_p1, jm_p2, jm_b, jn_b, jn_s, jn_p, jset_jset, jset_jpush2, ckR_is, ckr_is, rR_is, ckW_is, cR_is, obi2, ckW_int, eq_self, if_true, ref_null, if_false, ne_eq, not_true_eq_false, not_false_eq_true, decide_true, decide_false, decide_not, Bool.true_and, Bool.false_and, Bool.and_true, Bool.and_false, Bool.true_or, Bool.false_or, Bool.or_true, Bool.or_false, Bool.not_true, Bool.not_false, Bool.false_eq_true, bI_t, bI_f, Int.natCast_one, Int.cast_ofNat_Int, Int.natCast_zero, ju_self, ju_ne, q1, ← hH1, F9005_18, F9005_36, r5', cI_th]
    | ok v =>
      rw [hc] at d4
      obtain ⟨w, r5, rfl, h2, v0, v1, -, -⟩ := d4
      have r5' := (mh (d + 9) _ _).trans r5
      rw [eb_ok]
      obtain ⟨H3, hH3⟩ : ∃ H3, H3 = jset H2 H.1 (1000, 1, aI (fset (fun _ => 0) 0 v)) := ⟨_, rfl⟩
      have m2 : jm H2 H.1 = some (1000, 1, aI (fun _ => 0)) := (d1.2.2 _ (by omega) fun z => z).trans m1
      have m3 : jm H3 H.1 = some (1000, 1, aI (fset (fun _ => 0) 0 v)) := by rw [hH3]; exact jm_s1
      have f3 : Fr H2 H3 (fun u => u = H.1) := by rw [hH3]; exact Fr.set rfl
      have n3 : H3.1 = H2.1 ∧ H3.2.1 = H2.2.1 := by rw [hH3]; exact ⟨rfl, rfl⟩
      have l2 := d1.1
      have h3 := (h2.fr f3 (fun u _ z => Or.inr z) (by omega)).less (B := Bs a q bt (S 0)) (fun u hu => Or.inl hu) (Or.inl rfl)
      have F3 : Fr H H3 (fun u => u = a) := ((f1.tr d1).mono fun _ _ z => z.elim).new (f3.mono fun u _ z => Or.inr (by omega))
      have M3 := hM.fr F3
      have cf : ColF (Fz (Bs a q bt (S 0)) H3) H.1 v (-1) := ⟨fset (fun _ => 0) 0 v, by rw [if_pos (by decide)]; exact Fz_in (by omega) (nb _ (Nat.le_refl _)) m3, fset_eq, fun z => absurd z (by decide)⟩
      obtain ⟨H4, i1, i2, i3, i4⟩ := rk_tail (d := d) h3 M3 cf t0 (by omega) v0 (by omega) (by omega) (by omega)
      refine ⟨H4, F3.tr i1, by omega, by omega, ?_⟩
      have run : ∀ X : Rz, (zpR (jf (jc H3 (.ref a)) [9, 15, 27, 29] 4) (fun r4 => zcI (M2 (d + 9) 3000 [r4, .int (zI o), .ref H.1] H3) (fun x5 h6 => if x5 = (-1) then (zcV (MvH (d + 9) 9114 [.ref a, .int 0, .int 3] h6) (fun h8 => zcV (MvH (d + 9) 9120 [.ref a] h8) (fun h10 => some (.inl (some (.int x5)), h10)) ()) ()) else (zcV (MvH (d + 9) 9114 [.ref a, .int 1, .int 3] h6) (fun h12 => zcV (MvH (d + 9) 9120 [.ref a] h12) (fun h14 => some (.inl (some (.int x5)), h14)) ()) ())) ()) ()) = X → (zqN (zI 1) (zqH (jpush H (1000, (zI 1).toNatClampNeg, fun _ => .int 0)) (fun h1 => if zI 1 = 2 then (zcI (MvH (d + 9) 9116 [.ref a, .int (zI o), .int (-1)] h1) (fun x2 h3 => zqS h3 (.ref H.1) [1000] 0 (.int x2) (fun h4 => G2 (d + 9) 9005 18 [.ref a, .int (zI o), .int (zI 1), .ref H.1, jno] [] h4) ()) ()) else (G2 (d + 9) 9005 18 [.ref a, .int (zI o), .int (zI 1), .ref H.1, jno] [] h1)) ()) () : Rz) = X := by
        intro X hX
        obtain ⟨f9, mm9, -, f94, -⟩ := rdc9 h3
        rw [← hX]
        simp (disch := first | assumption | omega | decide | exact okF_i | exact okF_r | exact okF_n | exact okF_j | rfl) only [jc_ref, rI_int, rR_ref, rR_null, rJ_long, ckR_ref, ckR_null, ckr_ref, ckr_null, ckW_int, ckW_ref, ckW_null, cI_ok, cR_ok, cR_null, cV_ok, cJ_ok, qH_eq, qD_in, aG_ref, aS_ref, aL_ref, pF_ref, cK_ref, cK_null, zI_lit, zJ_lit, zI_add, zI_sub, zI_mul, zI_neg, zI_eq, zI_lt, zI_le, Int.reduceLT, Int.reduceLE, Int.reduceAdd, Int.reduceSub, Int.reduceMul, Int.reduceNeg, Int.reduceEq, Int.reduceNe, reduceIte, jf_in, pFc_in, aGi, aGb, aSi, aLc_in, cKc_in, nA_in, jm_s1, jm_s2, jm_p1, jm_p2, jm_b, jn_b, jn_s, jn_p, jset_jset, jset_jpush2, ckR_is, ckr_is, rR_is, ckW_is, cR_is, obi2, ckW_int, eq_self, if_true, ref_null, if_false, ne_eq, not_true_eq_false, not_false_eq_true, decide_true, decide_false, decide_not, Bool.true_and, Bool.false_and, Bool.and_true, Bool.and_false, Bool.true_or, Bool.false_or, Bool.or_true, Bool.or_false, Bool.not_true, Bool.not_false, Bool.false_eq_true, bI_t, bI_f, Int.natCast_one, Int.cast_ofNat_Int, Int.natCast_zero, ju_self, ju_ne, q1, ← hH1, F9005_18, F9005_36, r5', m2, ← hH3, mm9, f94]
      cases hk : (if keyOfH S o v (-1) < 0 then (.error (erx g z l p 3) : Except Er (Int × Int)) else .ok (keyOfH S o v (-1), nxt g z l p)) with
      | error er => rw [hk] at i4; obtain ⟨u, r7, r8⟩ := i4; exact ⟨u, run _ r7, r8⟩
      | ok vv => rw [hk] at i4; obtain ⟨w, r7, r8⟩ := i4; exact ⟨w, run _ r7, r8⟩
  · have e12 : (if two < 0 then (1 : Int) else 2) = 2 := if_neg ct
    rw [e12, if_neg ct]
    have q2 : (zI 2).toNatClampNeg = 2 := by decide
    obtain ⟨H1, hH1⟩ : ∃ H1, H1 = jpush H (1000, 2, fun _ => .int (zI 0)) := ⟨_, rfl⟩
    have m1 : jm H1 H.1 = some (1000, 2, aI (fun _ => 0)) := by rw [hH1]; exact jm_p1
    have f1 : Fr H H1 (fun _ => False) := by rw [hH1]; exact Fr.push
    have n1 : H1.1 = H.1 + 1 ∧ H1.2.1 = H.2.1 + 2 := by rw [hH1]; exact ⟨rfl, rfl⟩
    have h1 : RdC (fun u => Bs a q bt (S 0) u ∨ u = H.1) H1 a 9 n tp q g z l x y p := h.more f1 (fun _ _ e => e.elim) (fun e => e) (fun u hu => hu.elim Or.inl fun e => Or.inr (by omega)) fun u hu => Or.inl hu
    have M1 := hM.fr (f1.mono fun _ _ z => z.elim)
    obtain ⟨-, -, -, mc, -⟩ := mvR h1
    obtain ⟨H2, d1, d2, d3, d4⟩ := rc_col (d := d + 1) (but := -1) h1 (M1.p (Int.le_refl _)) (by omega) t0 t1 bc.1 (by omega) (by omega)
    rw [hold_col] at d4
    cases hc : colP g z l S nm o p with
    | error er =>
      rw [hc] at d4
      obtain ⟨u, r5, r6⟩ := d4
      have r5' := (mc (d + 9) _ _).trans r5
      rw [eb_er, eb_er]
      refine ⟨H2, (f1.mono fun _ _ z => z.elim).tr d1, by omega, by omega, u, ?_, r6⟩
      simp (disch := first | assumption | omega | decide | exact okF_i | exact okF_r | exact okF_n | exact okF_j | rfl) only [jc_ref, rI_int, rR_ref, rR_null, rJ_long, ckR_ref, ckR_null, ckr_ref, ckr_null, ckW_int, ckW_ref, ckW_null, cI_ok, cR_ok, cR_null, cV_ok, cJ_ok, qH_eq, qD_in, aG_ref, aS_ref, aL_ref, pF_ref, cK_ref, cK_null, zI_lit, zJ_lit, zI_add, zI_sub, zI_mul, zI_neg, zI_eq, zI_lt, zI_le, Int.reduceLT, Int.reduceLE, Int.reduceAdd, Int.reduceSub, Int.reduceMul, Int.reduceNeg, Int.reduceEq, Int.reduceNe, reduceIte, jf_in, pFc_in, aGi, aGb, aSi, aLc_in, cKc_in, nA_in, jm_s1, jm_s2, jm_p1, jm_p2, jm_b, jn_b, jn_s, jn_p, jset_jset, jset_jpush2, ckR_is, ckr_is, rR_is, ckW_is, cR_is, obi2, ckW_int, eq_self, if_true, ref_null, if_false, ne_eq, not_true_eq_false, not_false_eq_true, decide_true, decide_false, decide_not, Bool.true_and, Bool.false_and, Bool.and_true, Bool.and_false, Bool.true_or, Bool.false_or, Bool.or_true, Bool.or_false, Bool.not_true, Bool.not_false, Bool.false_eq_true, bI_t, bI_f, Int.natCast_one, Int.cast_ofNat_Int, Int.natCast_zero, ju_self, ju_ne, q2, ← hH1, r5', cI_th]
    | ok a1 =>
      rw [hc] at d4
      obtain ⟨w, r5, rfl, h2, v0, v1, -, -⟩ := d4
      have r5' := (mc (d + 9) _ _).trans r5
      rw [eb_ok, eb_ok]
      obtain ⟨H3, hH3⟩ : ∃ H3, H3 = jset H2 H.1 (1000, 2, aI (fset (fun _ => 0) 0 a1)) := ⟨_, rfl⟩
      have l2 := d1.1
      have m2 : jm H2 H.1 = some (1000, 2, aI (fun _ => 0)) := (d1.2.2 _ (by omega) (by omega)).trans m1
      have m3 : jm H3 H.1 = some (1000, 2, aI (fset (fun _ => 0) 0 a1)) := by rw [hH3]; exact jm_s1
      have f3 : Fr H2 H3 (fun u => u = H.1) := by rw [hH3]; exact Fr.set rfl
      have n3 : H3.1 = H2.1 ∧ H3.2.1 = H2.2.1 := by rw [hH3]; exact ⟨rfl, rfl⟩
      have h3 := h2.fr f3 (fun u _ z => Or.inr z) (by omega)
      have F3 : Fr H H3 (fun u => u = a) := ((f1.mono fun _ _ z => z.elim).tr d1).new (f3.mono fun u _ z => Or.inr (by omega))
      have M3 := hM.fr F3
      obtain ⟨-, -, -, -, -, -, -, -, mh, -⟩ := mvR h3
      obtain ⟨H4, g1, g2, g3, g4⟩ := rc_hold (d := d + 2) (but := a1) h3 (M3.p (Int.le_refl _)) (by omega) t0 t1 bc.1 (by omega) (by omega)
      rw [hold_but] at g4
      have F4 : Fr H H4 (fun u => u = a) := F3.tr (g1.mono fun _ _ z => z.elim)
      cases hc2 : colP g z l S nm o (nxt g z l p) with
      | error er =>
        rw [hc2] at g4
        obtain ⟨u, r7, r8⟩ := g4
        have r7' := (mh (d + 9) _ _).trans r7
        rw [eb_er]
        refine ⟨H4, F4, by omega, by omega, u, ?_, r8⟩
        simp (disch := first | assumption | omega | decide | exact okF_i | exact okF_r | exact okF_n | exact okF_j | rfl) only [jc_ref, rI_int, rR_ref, rR_null, rJ_long, ckR_ref, ckR_null, ckr_ref, ckr_null, ckW_int, ckW_ref, ckW_null, cI_ok, cR_ok, cR_null, cV_ok, cJ_ok, qH_eq, qD_in, aG_ref, aS_ref, aL_ref, pF_ref, cK_ref, cK_null, zI_lit, zJ_lit, zI_add, zI_sub, zI_mul, zI_neg, zI_eq, zI_lt, zI_le, Int.reduceLT, Int.reduceLE, Int.reduceAdd, Int.reduceSub, Int.reduceMul, Int.reduceNeg, Int.reduceEq, Int.reduceNe, reduceIte, jf_in, pFc_in, aGi, aGb, aSi, aLc_in, cKc_in, nA_in, jm_s1, jm_s2, jm_p1, jm_p2, jm_b, jn_b, jn_s, jn_p, jset_jset, jset_jpush2, ckR_is, ckr_is, rR_is, ckW_is, cR_is, obi2, ckW_int, eq_self, if_true, ref_null, if_false, ne_eq, not_true_eq_false, not_false_eq_true, decide_true, decide_false, decide_not, Bool.true_and, Bool.false_and, Bool.and_true, Bool.and_false, Bool.true_or, Bool.false_or, Bool.or_true, Bool.or_false, Bool.not_true, Bool.not_false, Bool.false_eq_true, bI_t, bI_f, Int.natCast_one, Int.cast_ofNat_Int, Int.natCast_zero, ju_self, ju_ne, q2, ← hH1, r5', m2, ← hH3, F9005_18, F9005_36, m3, fset_eq, r7', cI_th]
      | ok v =>
        rw [hc2, eb_ok] at g4
        rw [eb_ok]
        have ek : (if two < 0 then keyOfH S o v (-1) else if a1 = v then -1 else keyOfH S o a1 v) = if a1 = v then -1 else keyOfH S o a1 v := if_neg ct
        show CR (if (if two < 0 then keyOfH S o v (-1) else if a1 = v then -1 else keyOfH S o a1 v) < 0 then .error (erx g z l (nxt g z l p) 3) else .ok (if two < 0 then keyOfH S o v (-1) else if a1 = v then -1 else keyOfH S o a1 v, nxt g z l (nxt g z l p))) _ _ _ _ _ _
        rw [ek]
        by_cases cc : v = a1
        · rw [if_pos cc] at g4
          rw [if_pos cc.symm, if_pos (show (-1 : Int) < 0 by decide)]
          obtain ⟨u, r7, r8⟩ := g4
          have r7' := (mh (d + 9) _ _).trans r7
          refine ⟨H4, F4, by omega, by omega, u, ?_, r8⟩
          simp (disch := first | assumption | omega | decide | exact okF_i | exact okF_r | exact okF_n | exact okF_j | rfl) only [jc_ref, rI_int, rR_ref, rR_null, rJ_long, ckR_ref, ckR_null, ckr_ref, ckr_null, ckW_int, ckW_ref, ckW_null, cI_ok, cR_ok, cR_null, cV_ok, cJ_ok, qH_eq, qD_in, aG_ref, aS_ref, aL_ref, pF_ref, cK_ref, cK_null, zI_lit, zJ_lit, zI_add, zI_sub, zI_mul, zI_neg, zI_eq, zI_lt, zI_le, Int.reduceLT, Int.reduceLE, Int.reduceAdd, Int.reduceSub, Int.reduceMul, Int.reduceNeg, Int.reduceEq, Int.reduceNe, reduceIte, jf_in, pFc_in, aGi, aGb, aSi, aLc_in, cKc_in, nA_in, jm_s1, jm_s2, jm_p1, jm_p2, jm_b, jn_b, jn_s, jn_p, jset_jset, jset_jpush2, ckR_is, ckr_is, rR_is, ckW_is, cR_is, obi2, ckW_int, eq_self, if_true, ref_null, if_false, ne_eq, not_true_eq_false, not_false_eq_true, decide_true, decide_false, decide_not, Bool.true_and, Bool.false_and, Bool.and_true, Bool.and_false, Bool.true_or, Bool.false_or, Bool.or_true, Bool.or_false, Bool.not_true, Bool.not_false, Bool.false_eq_true, bI_t, bI_f, Int.natCast_one, Int.cast_ofNat_Int, Int.natCast_zero, ju_self, ju_ne, q2, ← hH1, r5', m2, ← hH3, F9005_18, F9005_36, m3, fset_eq, r7', cI_th]
        · rw [if_neg cc] at g4
          have ev : (if a1 = v then -1 else keyOfH S o a1 v) = keyOfH S o a1 v := if_neg (fun z => cc z.symm)
          rw [ev]
          obtain ⟨w, r7, rfl, h4, v2, v3, -, -⟩ := g4
          have r7' := (mh (d + 9) _ _).trans r7
          obtain ⟨H5, hH5⟩ : ∃ H5, H5 = jset H4 H.1 (1000, 2, aI (fset (fset (fun _ => 0) 0 a1) 1 v)) := ⟨_, rfl⟩
          have l4 := g1.1
          have m4 : jm H4 H.1 = some (1000, 2, aI (fset (fun _ => 0) 0 a1)) := (g1.2.2 _ (by omega) fun z => z).trans m3
          have m5 : jm H5 H.1 = some (1000, 2, aI (fset (fset (fun _ => 0) 0 a1) 1 v)) := by rw [hH5]; exact jm_s1
          have f5 : Fr H4 H5 (fun u => u = H.1) := by rw [hH5]; exact Fr.set rfl
          have n5 : H5.1 = H4.1 ∧ H5.2.1 = H4.2.1 := by rw [hH5]; exact ⟨rfl, rfl⟩
          have h5 := (h4.fr f5 (fun u _ z => Or.inr z) (by omega)).less (B := Bs a q bt (S 0)) (fun u hu => Or.inl hu) (Or.inl rfl)
          have F5 : Fr H H5 (fun u => u = a) := F4.new (f5.mono fun u _ z => Or.inr (by omega))
          have M5 := hM.fr F5
          have cf : ColF (Fz (Bs a q bt (S 0)) H5) H.1 a1 v := ⟨fset (fset (fun _ => 0) 0 a1) 1 v, by rw [if_neg (by omega)]; exact Fz_in (by omega) (nb _ (Nat.le_refl _)) m5, (fset_ne (by decide)).trans fset_eq, fun z => fset_eq⟩
          obtain ⟨H6, i1, i2, i3, i4⟩ := rk_tail (d := d) h5 M5 cf t0 (by omega) v0 (by omega) (by omega) (by omega)
          refine ⟨H6, F5.tr i1, by omega, by omega, ?_⟩
          have run : ∀ X : Rz, (zpR (jf (jc H5 (.ref a)) [9, 15, 27, 29] 4) (fun r4 => zcI (M2 (d + 9) 3000 [r4, .int (zI o), .ref H.1] H5) (fun x5 h6 => if x5 = (-1) then (zcV (MvH (d + 9) 9114 [.ref a, .int 0, .int 3] h6) (fun h8 => zcV (MvH (d + 9) 9120 [.ref a] h8) (fun h10 => some (.inl (some (.int x5)), h10)) ()) ()) else (zcV (MvH (d + 9) 9114 [.ref a, .int 1, .int 3] h6) (fun h12 => zcV (MvH (d + 9) 9120 [.ref a] h12) (fun h14 => some (.inl (some (.int x5)), h14)) ()) ())) ()) ()) = X → (zqN (zI 2) (zqH (jpush H (1000, (zI 2).toNatClampNeg, fun _ => .int 0)) (fun h1 => if zI 2 = 2 then (zcI (MvH (d + 9) 9116 [.ref a, .int (zI o), .int (-1)] h1) (fun x2 h3 => zqS h3 (.ref H.1) [1000] 0 (.int x2) (fun h4 => G2 (d + 9) 9005 18 [.ref a, .int (zI o), .int (zI 2), .ref H.1, jno] [] h4) ()) ()) else (G2 (d + 9) 9005 18 [.ref a, .int (zI o), .int (zI 2), .ref H.1, jno] [] h1)) ()) () : Rz) = X := by
            intro X hX
            obtain ⟨f9, mm9, -, f94, -⟩ := rdc9 h5
            rw [← hX]
            simp (disch := first | assumption | omega | decide | exact okF_i | exact okF_r | exact okF_n | exact okF_j | rfl) only [jc_ref, rI_int, rR_ref, rR_null, rJ_long, ckR_ref, ckR_null, ckr_ref, ckr_null, ckW_int, ckW_ref, ckW_null, cI_ok, cR_ok, cR_null, cV_ok, cJ_ok, qH_eq, qD_in, aG_ref, aS_ref, aL_ref, pF_ref, cK_ref, cK_null, zI_lit, zJ_lit, zI_add, zI_sub, zI_mul, zI_neg, zI_eq, zI_lt, zI_le, Int.reduceLT, Int.reduceLE, Int.reduceAdd, Int.reduceSub, Int.reduceMul, Int.reduceNeg, Int.reduceEq, Int.reduceNe, reduceIte, jf_in, pFc_in, aGi, aGb, aSi, aLc_in, cKc_in, nA_in, jm_s1, jm_s2, jm_p1, jm_p2, jm_b, jn_b, jn_s, jn_p, jset_jset, jset_jpush2, ckR_is, ckr_is, rR_is, ckW_is, cR_is, obi2, ckW_int, eq_self, if_true, ref_null, if_false, ne_eq, not_true_eq_false, not_false_eq_true, decide_true, decide_false, decide_not, Bool.true_and, Bool.false_and, Bool.and_true, Bool.and_false, Bool.true_or, Bool.false_or, Bool.or_true, Bool.or_false, Bool.not_true, Bool.not_false, Bool.false_eq_true, bI_t, bI_f, Int.natCast_one, Int.cast_ofNat_Int, Int.natCast_zero, ju_self, ju_ne, q2, ← hH1, r5', m2, ← hH3, F9005_18, F9005_36, m3, fset_eq, r7', m4, ← hH5, mm9, f94]
          cases hk : (if keyOfH S o a1 v < 0 then (.error (erx g z l (nxt g z l p) 3) : Except Er (Int × Int)) else .ok (keyOfH S o a1 v, nxt g z l (nxt g z l p))) with
          | error er => rw [hk] at i4; obtain ⟨u, r7, r8⟩ := i4; exact ⟨u, run _ r7, r8⟩
          | ok vv => rw [hk] at i4; obtain ⟨w, r7, r8⟩ := i4; exact ⟨w, run _ r7, r8⟩
end
