/-! the component's reader of schemas: references -/
-- jc_ref, rI_int, rR_ref, rR_null, rJ_long, ckR_ref, ckR_null, ckr_ref, ckr_null, ckW_int, ckW_ref, ckW_null, cI_ok, cR_ok, cR_null, cV_ok, cJ_ok, qH_eq, qD_in, aG_ref, aS_ref, aL_ref, pF_ref, cK_ref, cK_null, zI_lit, zJ_lit, zI_add, zI_sub, zI_mul, zI_neg, zI_eq, zI_lt, zI_le, Int.reduceLT, Int.reduceLE, Int.reduceAdd, Int.reduceSub, Int.reduceMul, Int.reduceNeg, Int.reduceEq, Int.reduceNe, reduceIte, jf_in, pFc_in, aGi, aGb, aSi, aLc_in, cKc_in, nA_in, jm_s1, jm_s2, jm_p1, jm_p2, jm_b, jn_b, jn_s, jn_p, jset_jset, jset_jpush2, ckR_is, ckr_is, rR_is, ckW_is, cR_is, obi2, ckW_int, eq_self, if_true, ref_null, if_false, ne_eq, not_true_eq_false, not_false_eq_true, decide_true, decide_false, decide_not, Bool.true_and, Bool.false_and, Bool.and_true, Bool.and_false, Bool.true_or, Bool.false_or, Bool.or_true, Bool.or_false, Bool.not_true, Bool.not_false, Bool.false_eq_true, bI_t, bI_f, Int.natCast_one, Int.cast_ofNat_Int, Int.natCast_zero, ju_self, ju_ne = jc_ref, rI_int, rR_ref, rR_null, rJ_long, ckR_ref, ckR_null, ckr_ref, ckr_null, ckW_int, ckW_ref, ckW_null, cI_ok, cR_ok, cR_null, cV_ok, cJ_ok, qH_eq, qD_in, aG_ref, aS_ref, aL_ref, pF_ref, cK_ref, cK_null, zI_lit, zJ_lit, zI_add, zI_sub, zI_mul, zI_neg, zI_eq, zI_lt, zI_le, Int.reduceLT, Int.reduceLE, Int.reduceAdd, Int.reduceSub, Int.reduceMul, Int.reduceNeg, Int.reduceEq, Int.reduceNe, reduceIte, jf_in, pFc_in, aGi, aGb, aSi, aLc_in, cKc_in, nA_in, jm_s1, jm_s2, jm_p1, jm_p2, jm_b, jn_b, jn_s, jn_p, jset_jset, jset_jpush2, ckR_is, ckr_is, rR_is, ckW_is, cR_is, obi2, ckW_int, eq_self, if_true, ref_null, if_false, ne_eq, not_true_eq_false, not_false_eq_true, decide_true, decide_false, decide_not, Bool.true_and, Bool.false_and, Bool.and_true, Bool.and_false, Bool.true_or, Bool.false_or, Bool.or_true, Bool.or_false, Bool.not_true, Bool.not_false, Bool.false_eq_true, bI_t, bI_f, Int.natCast_one, Int.cast_ofNat_Int, Int.natCast_zero, ju_self, ju_ne
section
variable {d : Nat} {H H2 : AH} {a b e e1 e2 q n tp c s c2 s2 tg : Nat} {m ln t tt but v one two o : Int} {B P P0 C : Nat → Prop} {S nm g : Int → Int} {bt : Int → Nat} {z l p : Int} {x y : Value} {f : Nat → Value} {F : Nat → Option Cl}
/-- the word 'to' is needed -/
theorem rs_to (h : RdC B H a 9 n tp q g z l x y p) : ∃ w, je H 33 = .ref w ∧ MvH (d + 11) 9113 [.ref a, .ref w] H = some (.inl (some (.int (zI (bZ (isW g z l p wTO))))), H) ∧ (if isW g z l p wTO = true then MvH (d + 11) 9114 [.ref a, .int (zI (bZ (isW g z l p wTO))), .int (zI 1)] H = some (.inl none, H) ∧ ∃ H2, MvH (d + 11) 9120 [.ref a] H = some (.inl none, H2) ∧ Fr H H2 (fun u => u = a) ∧ H2.1 ≤ H.1 + 4 ∧ H2.2.1 ≤ H.2.1 + 31 ∧ RdC B H2 a 9 n tp q g z l x y (nxt g z l p) else ∃ H2, MvH (d + 11) 9114 [.ref a, .int (zI (bZ (isW g z l p wTO))), .int (zI 1)] H = some (.inr H.1, H2) ∧ Fr H H2 (fun _ => False) ∧ H2.1 = H.1 + 1 ∧ H2.2.1 = H.2.1 + 8 ∧ FaF H2 H.1 (erx g z l p 1)) := by
  obtain ⟨mi, mn, -, -, -, -, -, mg, -⟩ := mvR h
  obtain ⟨w1, a1, b1⟩ := rc_isE h (k := 33) (by omega) (by omega) (nmE (by decide))
  have b1' := (mi (d + 11) _).trans (b1 (d + 9))
  rw [show pk (bsL 33) = wTO by decide] at b1'
  have nd := rc_need (d := d + 6) h (b := isW g z l p wTO) (k := 1) (by omega) (by omega)
  refine ⟨w1, a1, b1', ?_⟩
  cases e : isW g z l p wTO with
  | true =>
    rw [e, if_pos rfl] at nd
    rw [if_pos rfl]
    obtain ⟨H2, g1, g2, g3, g4, g5⟩ := rc_go (d := d + 9) h
    exact ⟨(mn (d + 11) _ _).trans nd, H2, (mg (d + 11)).trans g1, g2, g3, g4, g5⟩
  | false =>
    rw [e, if_neg (by decide)] at nd
    rw [if_neg (by decide)]
    obtain ⟨H2, r1, r2, r3, r4, r5⟩ := nd
    exact ⟨H2, (mn (d + 11) _ _).trans r1, r2, r3, r4, r5⟩
theorem rs_ref (h : RdC (Bs a q bt (S 0)) H a 9 n tp q g z l x y p) (hM : SchM H a q bt (S 0) (S 0) ln S (nmS nm)) :
    CR (if S 2 = 6 then .error (erx g z l p 4) else refP g z l S nm p) (M2 (d + 12) 9011 [.ref a] H) H (fun u => a ≤ u) 120 1000 (LnK a n tp q g z l x y ln) := by
  obtain ⟨ord, h1, h2, h3, h4, h5, h6, h7, W⟩ := id hM
  obtain ⟨b1, b2, b3, b4, b5, b6⟩ := W.1
  obtain ⟨f, mm, e9, f4, al⟩ := rdc9 h
  have rv : (jtRecv 9011).elem 9 = true := rfl
  have sz := h4.sz (d := d + 10)
  have oa := ord.1.1
  have ob := ord.1.2
  have rm := rs_room (d := d + 5) h (v := S 2) (mx := 6) (by omega) (by omega) (by omega) (by omega)
  have er : (if S 2 = 6 then (.error (erx g z l p 4) : Except Er ((Int → Int) × (Int → Int) × Int)) else refP g z l S nm p) = eb (if (6 : Int) ≤ S 2 then .error (erx g z l p 4) else .ok (nxt g z l p)) fun _ => refP g z l S nm p := by
    by_cases c : S 2 = 6
    · rw [if_pos c, if_pos (by omega)]; rfl
    · rw [if_neg c, if_neg (by omega)]; rfl
  rw [er]
  refine CR.wk (P0 := fun u => a ≤ u) (c := 4 + 110) (s := 31 + 900) (CR.bind rm (fun u z => by omega) (fun X H2 hr => ?_) fun p1 w1 H1 e1 r1 k1 f1 n1 n1' => ?_) (fun u z => z) (by omega) (by omega)
  · rw [Y9011 H (jrecv_in mm rv), F9011_0]
    simp (disch := first | assumption | omega | decide | exact okF_i | exact okF_r | exact okF_n | exact okF_j | rfl) only [jc_ref, rI_int, rR_ref, rR_null, rJ_long, ckR_ref, ckR_null, ckr_ref, ckr_null, ckW_int, ckW_ref, ckW_null, cI_ok, cR_ok, cR_null, cV_ok, cJ_ok, qH_eq, qD_in, aG_ref, aS_ref, aL_ref, pF_ref, cK_ref, cK_null, zI_lit, zJ_lit, zI_add, zI_sub, zI_mul, zI_neg, zI_eq, zI_lt, zI_le, Int.reduceLT, Int.reduceLE, Int.reduceAdd, Int.reduceSub, Int.reduceMul, Int.reduceNeg, Int.reduceEq, Int.reduceNe, reduceIte, jf_in, pFc_in, aGi, aGb, aSi, aLc_in, cKc_in, nA_in, jm_s1, jm_s2, jm_p1, jm_p2, jm_b, jn_b, jn_s, jn_p, jset_jset, jset_jpush2, ckR_is, ckr_is, rR_is, ckW_is, cR_is, obi2, ckW_int, eq_self, if_true, ref_null, if_false, ne_eq, not_true_eq_false, not_false_eq_true, decide_true, decide_false, decide_not, Bool.true_and, Bool.false_and, Bool.and_true, Bool.and_false, Bool.true_or, Bool.false_or, Bool.or_true, Bool.or_false, Bool.not_true, Bool.not_false, Bool.false_eq_true, bI_t, bI_f, Int.natCast_one, Int.cast_ofNat_Int, Int.natCast_zero, ju_self, ju_ne, o3_0, o3_1, o3_2, o3_3, o3_4, mm, f4, h1, sz, hr, cV_th]
  have ep1 : p1 = nxt g z l p := by
    by_cases c : (6 : Int) ≤ S 2
    · rw [if_pos c] at e1; cases e1
    · rw [if_neg c] at e1; injection e1 with e1; exact e1.symm
  have f6 : S 2 < 6 := by
    by_cases c : (6 : Int) ≤ S 2
    · rw [if_pos c] at e1; cases e1
    · omega
  subst ep1
  obtain ⟨rfl, k1⟩ := k1
  have M1 := hM.fr f1
  obtain ⟨-, -, mt1, -⟩ := mvR k1
  have t1 := rs_tab (d := d + 4) k1 M1
  rw [← mt1 (d + 11)] at t1
  unfold refP
  refine CR.wk (P0 := fun u => a ≤ u) (c := 9 + 100) (s := 80 + 800) (CR.bind t1 (fun u z => by omega) (fun X H2 hr => ?_) fun t w2 H2 e2 r2 k2 f2 n2 n2' => ?_) (fun u z => z) (by omega) (by omega)
  · rw [Y9011 H (jrecv_in mm rv), F9011_0]
    simp (disch := first | assumption | omega | decide | exact okF_i | exact okF_r | exact okF_n | exact okF_j | rfl) only [jc_ref, rI_int, rR_ref, rR_null, rJ_long, ckR_ref, ckR_null, ckr_ref, ckr_null, ckW_int, ckW_ref, ckW_null, cI_ok, cR_ok, cR_null, cV_ok, cJ_ok, qH_eq, qD_in, aG_ref, aS_ref, aL_ref, pF_ref, cK_ref, cK_null, zI_lit, zJ_lit, zI_add, zI_sub, zI_mul, zI_neg, zI_eq, zI_lt, zI_le, Int.reduceLT, Int.reduceLE, Int.reduceAdd, Int.reduceSub, Int.reduceMul, Int.reduceNeg, Int.reduceEq, Int.reduceNe, reduceIte, jf_in, pFc_in, aGi, aGb, aSi, aLc_in, cKc_in, nA_in, jm_s1, jm_s2, jm_p1, jm_p2, jm_b, jn_b, jn_s, jn_p, jset_jset, jset_jpush2, ckR_is, ckr_is, rR_is, ckW_is, cR_is, obi2, ckW_int, eq_self, if_true, ref_null, if_false, ne_eq, not_true_eq_false, not_false_eq_true, decide_true, decide_false, decide_not, Bool.true_and, Bool.false_and, Bool.and_true, Bool.and_false, Bool.true_or, Bool.false_or, Bool.or_true, Bool.or_false, Bool.not_true, Bool.not_false, Bool.false_eq_true, bI_t, bI_f, Int.natCast_one, Int.cast_ofNat_Int, Int.natCast_zero, ju_self, ju_ne, o3_0, o3_1, o3_2, o3_3, o3_4, mm, f4, h1, sz, r1, hr, cI_th]
  obtain ⟨rfl, k2, M2', t0, t4, tc0, tc4⟩ := k2
  have cl := rs_cols (d := d + 1) k2 (M2'.p (Int.le_refl _)) rfl (by omega) t0 t4 tc0 tc4
  refine CR.wk (P0 := fun u => a ≤ u) (c := 24 + 76) (s := 216 + 584) (CRl.bind cl (fun u z => by omega) (fun X H2 hr => ?_) (fun w p' H3 r3 kd1 k3 f3 => ?_) fun cc w3 H3 e3 r3 k3 f3 n3 n3' => ?_) (fun u z => z) (by omega) (by omega)
  · rw [Y9011 H (jrecv_in mm rv), F9011_0]
    simp (disch := first | assumption | omega | decide | exact okF_i | exact okF_r | exact okF_n | exact okF_j | rfl) only [jc_ref, rI_int, rR_ref, rR_null, rJ_long, ckR_ref, ckR_null, ckr_ref, ckr_null, ckW_int, ckW_ref, ckW_null, cI_ok, cR_ok, cR_null, cV_ok, cJ_ok, qH_eq, qD_in, aG_ref, aS_ref, aL_ref, pF_ref, cK_ref, cK_null, zI_lit, zJ_lit, zI_add, zI_sub, zI_mul, zI_neg, zI_eq, zI_lt, zI_le, Int.reduceLT, Int.reduceLE, Int.reduceAdd, Int.reduceSub, Int.reduceMul, Int.reduceNeg, Int.reduceEq, Int.reduceNe, reduceIte, jf_in, pFc_in, aGi, aGb, aSi, aLc_in, cKc_in, nA_in, jm_s1, jm_s2, jm_p1, jm_p2, jm_b, jn_b, jn_s, jn_p, jset_jset, jset_jpush2, ckR_is, ckr_is, rR_is, ckW_is, cR_is, obi2, ckW_int, eq_self, if_true, ref_null, if_false, ne_eq, not_true_eq_false, not_false_eq_true, decide_true, decide_false, decide_not, Bool.true_and, Bool.false_and, Bool.and_true, Bool.and_false, Bool.true_or, Bool.false_or, Bool.or_true, Bool.or_false, Bool.not_true, Bool.not_false, Bool.false_eq_true, bI_t, bI_f, Int.natCast_one, Int.cast_ofNat_Int, Int.natCast_zero, ju_self, ju_ne, o3_0, o3_1, o3_2, o3_3, o3_4, mm, f4, h1, sz, r1, r2, hr, cR_th]
  · obtain ⟨k3, nt, e, rfl⟩ := k3
    obtain ⟨w, j1, j2, j3⟩ := rs_to (d := d) k3
    rw [nt, if_neg (by decide)] at j3
    rw [nt] at j2
    obtain ⟨H4, j4, j5, j6, j7, j8⟩ := j3
    refine ⟨H4, j5.mono fun _ _ z => z.elim, by omega, by omega, H3.1, ?_, j8⟩
    rw [Y9011 H (jrecv_in mm rv), F9011_0]
    simp (disch := first | assumption | omega | decide | exact okF_i | exact okF_r | exact okF_n | exact okF_j | rfl) only [jc_ref, rI_int, rR_ref, rR_null, rJ_long, ckR_ref, ckR_null, ckr_ref, ckr_null, ckW_int, ckW_ref, ckW_null, cI_ok, cR_ok, cR_null, cV_ok, cJ_ok, qH_eq, qD_in, aG_ref, aS_ref, aL_ref, pF_ref, cK_ref, cK_null, zI_lit, zJ_lit, zI_add, zI_sub, zI_mul, zI_neg, zI_eq, zI_lt, zI_le, Int.reduceLT, Int.reduceLE, Int.reduceAdd, Int.reduceSub, Int.reduceMul, Int.reduceNeg, Int.reduceEq, Int.reduceNe, reduceIte, jf_in, pFc_in, aGi, aGb, aSi, aLc_in, cKc_in, nA_in, jm_s1, jm_s2, jm_p1, jm_p2, jm_b, jn_b, jn_s, jn_p, jset_jset, jset_jpush2, ckR_is, ckr_is, rR_is, ckW_is, cR_is, obi2, ckW_int, eq_self, if_true, ref_null, if_false, ne_eq, not_true_eq_false, not_false_eq_true, decide_true, decide_false, decide_not, Bool.true_and, Bool.false_and, Bool.and_true, Bool.and_false, Bool.true_or, Bool.false_or, Bool.or_true, Bool.or_false, Bool.not_true, Bool.not_false, Bool.false_eq_true, bI_t, bI_f, Int.natCast_one, Int.cast_ofNat_Int, Int.natCast_zero, ju_self, ju_ne, o3_0, o3_1, o3_2, o3_3, o3_4, mm, f4, h1, sz, r1, r2, r3, j1, j2, j4, cV_th]
  obtain ⟨k3, v1, v2, e, rfl, el, cf⟩ := k3
  have M3 := M2'.fr f3
  obtain ⟨w, j1, j2, j3⟩ := rs_to (d := d) k3
  cases nt : isW g z l cc.2.2 wTO with
  | false =>
    rw [nt, if_neg (by decide)] at j3
    rw [nt] at j2
    rw [if_pos rfl]
    obtain ⟨H4, j4, j5, j6, j7, j8⟩ := j3
    refine ⟨H4, j5.mono fun _ _ z => z.elim, by omega, by omega, H3.1, ?_, j8⟩
    rw [Y9011 H (jrecv_in mm rv), F9011_0]
    simp (disch := first | assumption | omega | decide | exact okF_i | exact okF_r | exact okF_n | exact okF_j | rfl) only [jc_ref, rI_int, rR_ref, rR_null, rJ_long, ckR_ref, ckR_null, ckr_ref, ckr_null, ckW_int, ckW_ref, ckW_null, cI_ok, cR_ok, cR_null, cV_ok, cJ_ok, qH_eq, qD_in, aG_ref, aS_ref, aL_ref, pF_ref, cK_ref, cK_null, zI_lit, zJ_lit, zI_add, zI_sub, zI_mul, zI_neg, zI_eq, zI_lt, zI_le, Int.reduceLT, Int.reduceLE, Int.reduceAdd, Int.reduceSub, Int.reduceMul, Int.reduceNeg, Int.reduceEq, Int.reduceNe, reduceIte, jf_in, pFc_in, aGi, aGb, aSi, aLc_in, cKc_in, nA_in, jm_s1, jm_s2, jm_p1, jm_p2, jm_b, jn_b, jn_s, jn_p, jset_jset, jset_jpush2, ckR_is, ckr_is, rR_is, ckW_is, cR_is, obi2, ckW_int, eq_self, if_true, ref_null, if_false, ne_eq, not_true_eq_false, not_false_eq_true, decide_true, decide_false, decide_not, Bool.true_and, Bool.false_and, Bool.and_true, Bool.and_false, Bool.true_or, Bool.false_or, Bool.or_true, Bool.or_false, Bool.not_true, Bool.not_false, Bool.false_eq_true, bI_t, bI_f, Int.natCast_one, Int.cast_ofNat_Int, Int.natCast_zero, ju_self, ju_ne, o3_0, o3_1, o3_2, o3_3, o3_4, mm, f4, h1, sz, r1, r2, r3, j1, j2, j4, cV_th]
  | true =>
  rw [nt, if_pos rfl] at j3
  rw [nt] at j2
  rw [if_neg (by decide)]
  obtain ⟨j4, H4, j5, f4', n4, n4', k4⟩ := j3
  refine CR.wk (c := 4 + 72) (s := 31 + 553) (CR.stp (P := fun u => a ≤ u) f4' (fun u z => by omega) n4 n4' ?_) (fun u z => z) (by omega) (by omega)
  have M4 := M3.fr f4'
  obtain ⟨-, -, mt4, -⟩ := mvR k4
  have t5 := rs_tab (d := d + 4) k4 M4
  rw [← mt4 (d + 11)] at t5
  refine CR.wk (P0 := fun u => a ≤ u) (c := 9 + 63) (s := 80 + 473) (CR.bind t5 (fun u z => by omega) (fun X H2 hr => ?_) fun o w5 H5 e5 r5 k5 f5 n5 n5' => ?_) (fun u z => z) (by omega) (by omega)
  · rw [Y9011 H (jrecv_in mm rv), F9011_0]
    simp (disch := first | assumption | omega | decide | exact okF_i | exact okF_r | exact okF_n | exact okF_j | rfl) only [jc_ref, rI_int, rR_ref, rR_null, rJ_long, ckR_ref, ckR_null, ckr_ref, ckr_null, ckW_int, ckW_ref, ckW_null, cI_ok, cR_ok, cR_null, cV_ok, cJ_ok, qH_eq, qD_in, aG_ref, aS_ref, aL_ref, pF_ref, cK_ref, cK_null, zI_lit, zJ_lit, zI_add, zI_sub, zI_mul, zI_neg, zI_eq, zI_lt, zI_le, Int.reduceLT, Int.reduceLE, Int.reduceAdd, Int.reduceSub, Int.reduceMul, Int.reduceNeg, Int.reduceEq, Int.reduceNe, reduceIte, jf_in, pFc_in, aGi, aGb, aSi, aLc_in, cKc_in, nA_in, jm_s1, jm_s2, jm_p1, jm_p2, jm_b, jn_b, jn_s, jn_p, jset_jset, jset_jpush2, ckR_is, ckr_is, rR_is, ckW_is, cR_is, obi2, ckW_int, eq_self, if_true, ref_null, if_false, ne_eq, not_true_eq_false, not_false_eq_true, decide_true, decide_false, decide_not, Bool.true_and, Bool.false_and, Bool.and_true, Bool.and_false, Bool.true_or, Bool.false_or, Bool.or_true, Bool.or_false, Bool.not_true, Bool.not_false, Bool.false_eq_true, bI_t, bI_f, Int.natCast_one, Int.cast_ofNat_Int, Int.natCast_zero, ju_self, ju_ne, o3_0, o3_1, o3_2, o3_3, o3_4, mm, f4, h1, sz, r1, r2, r3, j1, j2, j4, j5, hr, cI_th]
  obtain ⟨rfl, k5, M5, o0, o4, oc0, oc4⟩ := k5
  -- the array's length
  obtain ⟨gc, cf1, cf2, cf3⟩ := id cf
  have s35 : Sub (Fz (Bs a q bt (S 0)) H3) (Fz (Bs a q bt (S 0)) H5) := Fz_sub (f4'.tr f5) fun u _ z => Or.inl z
  have m5e := Fz_F.m (s35 _ _ cf1)
  have eN : (((if cc.2.1 < 0 then 1 else 2 : Nat)) : Int) = if cc.2.1 < 0 then 1 else 2 := by split <;> rfl
  have rk := rs_refKey (d := d + 1) k5 M5 o0 o4 (two := cc.2.1) (by omega) (by omega)
  refine CR.wk (P0 := fun u => a ≤ u) (c := 30 + 33) (s := 300 + 173) (CR.bind rk (fun u z => by omega) (fun X H2 hr => ?_) fun kk w6 H6 e6 r6 k6 f6' n6 n6' => ?_) (fun u z => z) (by omega) (by omega)
  · rw [Y9011 H (jrecv_in mm rv), F9011_0]
    simp (disch := first | assumption | omega | decide | exact okF_i | exact okF_r | exact okF_n | exact okF_j | rfl) only [jc_ref, rI_int, rR_ref, rR_null, rJ_long, ckR_ref, ckR_null, ckr_ref, ckr_null, ckW_int, ckW_ref, ckW_null, cI_ok, cR_ok, cR_null, cV_ok, cJ_ok, qH_eq, qD_in, aG_ref, aS_ref, aL_ref, pF_ref, cK_ref, cK_null, zI_lit, zJ_lit, zI_add, zI_sub, zI_mul, zI_neg, zI_eq, zI_lt, zI_le, Int.reduceLT, Int.reduceLE, Int.reduceAdd, Int.reduceSub, Int.reduceMul, Int.reduceNeg, Int.reduceEq, Int.reduceNe, reduceIte, jf_in, pFc_in, aGi, aGb, aSi, aLc_in, cKc_in, nA_in, jm_s1, jm_s2, jm_p1, jm_p2, jm_b, jn_b, jn_s, jn_p, jset_jset, jset_jpush2, ckR_is, ckr_is, rR_is, ckW_is, cR_is, obi2, ckW_int, eq_self, if_true, ref_null, if_false, ne_eq, not_true_eq_false, not_false_eq_true, decide_true, decide_false, decide_not, Bool.true_and, Bool.false_and, Bool.and_true, Bool.and_false, Bool.true_or, Bool.false_or, Bool.or_true, Bool.or_false, Bool.not_true, Bool.not_false, Bool.false_eq_true, bI_t, bI_f, Int.natCast_one, Int.cast_ofNat_Int, Int.natCast_zero, ju_self, ju_ne, o3_0, o3_1, o3_2, o3_3, o3_4, mm, f4, h1, sz, r1, r2, r3, j1, j2, j4, j5, r5, m5e, eN, hr, cI_th]
  obtain ⟨rfl, k6⟩ := k6
  have M6 := M5.fr f6'
  have t7 := rs_on (d := d + 5) k6
  refine CR.wk (P0 := fun u => a ≤ u) (c := 4 + 29) (s := 31 + 142) (CR.bind t7 (fun u z => by omega) (fun X H2 hr => ?_) fun g1 w7 H7 e7 r7 k7 f7 n7 n7' => ?_) (fun u z => z) (by omega) (by omega)
  · rw [Y9011 H (jrecv_in mm rv), F9011_0]
    simp (disch := first | assumption | omega | decide | exact okF_i | exact okF_r | exact okF_n | exact okF_j | rfl) only [jc_ref, rI_int, rR_ref, rR_null, rJ_long, ckR_ref, ckR_null, ckr_ref, ckr_null, ckW_int, ckW_ref, ckW_null, cI_ok, cR_ok, cR_null, cV_ok, cJ_ok, qH_eq, qD_in, aG_ref, aS_ref, aL_ref, pF_ref, cK_ref, cK_null, zI_lit, zJ_lit, zI_add, zI_sub, zI_mul, zI_neg, zI_eq, zI_lt, zI_le, Int.reduceLT, Int.reduceLE, Int.reduceAdd, Int.reduceSub, Int.reduceMul, Int.reduceNeg, Int.reduceEq, Int.reduceNe, reduceIte, jf_in, pFc_in, aGi, aGb, aSi, aLc_in, cKc_in, nA_in, jm_s1, jm_s2, jm_p1, jm_p2, jm_b, jn_b, jn_s, jn_p, jset_jset, jset_jpush2, ckR_is, ckr_is, rR_is, ckW_is, cR_is, obi2, ckW_int, eq_self, if_true, ref_null, if_false, ne_eq, not_true_eq_false, not_false_eq_true, decide_true, decide_false, decide_not, Bool.true_and, Bool.false_and, Bool.and_true, Bool.and_false, Bool.true_or, Bool.false_or, Bool.or_true, Bool.or_false, Bool.not_true, Bool.not_false, Bool.false_eq_true, bI_t, bI_f, Int.natCast_one, Int.cast_ofNat_Int, Int.natCast_zero, ju_self, ju_ne, o3_0, o3_1, o3_2, o3_3, o3_4, mm, f4, h1, sz, r1, r2, r3, j1, j2, j4, j5, r5, m5e, eN, r6, hr, cI_th]
  obtain ⟨rfl, k7⟩ := k7
  have M7 := M6.fr f7
  have t8 := rs_on (d := d + 5) k7
  refine CR.wk (P0 := fun u => a ≤ u) (c := 4 + 25) (s := 31 + 111) (CR.bind t8 (fun u z => by omega) (fun X H2 hr => ?_) fun g2 w8 H8 e8 r8 k8 f8 n8 n8' => ?_) (fun u z => z) (by omega) (by omega)
  · rw [Y9011 H (jrecv_in mm rv), F9011_0]
    simp (disch := first | assumption | omega | decide | exact okF_i | exact okF_r | exact okF_n | exact okF_j | rfl) only [jc_ref, rI_int, rR_ref, rR_null, rJ_long, ckR_ref, ckR_null, ckr_ref, ckr_null, ckW_int, ckW_ref, ckW_null, cI_ok, cR_ok, cR_null, cV_ok, cJ_ok, qH_eq, qD_in, aG_ref, aS_ref, aL_ref, pF_ref, cK_ref, cK_null, zI_lit, zJ_lit, zI_add, zI_sub, zI_mul, zI_neg, zI_eq, zI_lt, zI_le, Int.reduceLT, Int.reduceLE, Int.reduceAdd, Int.reduceSub, Int.reduceMul, Int.reduceNeg, Int.reduceEq, Int.reduceNe, reduceIte, jf_in, pFc_in, aGi, aGb, aSi, aLc_in, cKc_in, nA_in, jm_s1, jm_s2, jm_p1, jm_p2, jm_b, jn_b, jn_s, jn_p, jset_jset, jset_jpush2, ckR_is, ckr_is, rR_is, ckW_is, cR_is, obi2, ckW_int, eq_self, if_true, ref_null, if_false, ne_eq, not_true_eq_false, not_false_eq_true, decide_true, decide_false, decide_not, Bool.true_and, Bool.false_and, Bool.and_true, Bool.and_false, Bool.true_or, Bool.false_or, Bool.or_true, Bool.or_false, Bool.not_true, Bool.not_false, Bool.false_eq_true, bI_t, bI_f, Int.natCast_one, Int.cast_ofNat_Int, Int.natCast_zero, ju_self, ju_ne, o3_0, o3_1, o3_2, o3_3, o3_4, mm, f4, h1, sz, r1, r2, r3, j1, j2, j4, j5, r5, m5e, eN, r6, r7, hr, cI_th]
  obtain ⟨rfl, k8⟩ := k8
  have M8 := M7.fr f8
  obtain ⟨w34, a34, H9, r9, f9, n9, n9', k9⟩ := rs_may (d := d + 8) k8 (k := 34) (by omega) (by omega) (nmE (by decide))
  rw [show pk (bsL 34) = wFULL by decide] at r9 k9
  have M9 := M8.fr f9
  obtain ⟨fa9, mm9, -, f49, al9⟩ := rdc9 k9
  have h19 := M9.2.1
  have nb : ¬ Bs a q bt (S 0) H9.1 := fun hb => by have := k9.2.2.1 _ hb; omega
  -- the object
  obtain ⟨H10, hH10⟩ : ∃ H10, H10 = jpush H9 (13, 7, o13 0 .null 0 0 0 0 0) := ⟨_, rfl⟩
  have m10 : jm H10 H9.1 = some (13, 7, o13 0 .null 0 0 0 0 0) := by rw [hH10]; exact jm_p1
  have f10 : Fr H9 H10 (fun _ => False) := by rw [hH10]; exact Fr.push
  have n10 : H10.1 = H9.1 + 1 ∧ H10.2.1 = H9.2.1 + 7 := by rw [hH10]; exact ⟨rfl, rfl⟩
  have k10 : RdC (fun u => Bs a q bt (S 0) u ∨ u = H9.1) H10 a 9 n tp q g z l x y _ := k9.more f10 (fun _ _ e => e.elim) (fun e => e) (fun u hu => hu.elim Or.inl fun e => Or.inr (by omega)) fun u hu => Or.inl hu
  obtain ⟨w35, a35, H11, r11, f11, n11, n11', k11⟩ := rs_may (d := d + 8) k10 (k := 35) (by omega) (by omega) (nmE (by decide))
  rw [show pk (bsL 35) = wLATE by decide] at r11 k11
  have l10 := f11.1
  have m11 : jm H11 H9.1 = some (13, 7, o13 0 .null 0 0 0 0 0) := (f11.2.2 _ (by omega) (by omega)).trans m10
  obtain ⟨fu, hfu⟩ : ∃ fu, fu = bZ (isW g z l (nxt g z l (nxt g z l kk.2)) wFULL) := ⟨_, rfl⟩
  obtain ⟨la, hla⟩ : ∃ la, la = bZ (isW g z l (may g z l (nxt g z l (nxt g z l kk.2)) wFULL) wLATE) := ⟨_, rfl⟩
  rw [← hfu] at r9
  rw [← hla] at r11
  have fu01 : fu = 0 ∨ fu = 1 := by rw [hfu]; exact bZ_01 _
  have la01 : la = 0 ∨ la = 1 := by rw [hla]; exact bZ_01 _
  have i1 := ck_13900 (d := d + 8) (t := t) (e := e) (k := kk.1) (g1 := g1) (g2 := g2) m11 fu01 la01
  obtain ⟨H12, hH12⟩ : ∃ H12, H12 = jset H11 H9.1 (13, 7, o13 t (.ref e) kk.1 g1 g2 fu la) := ⟨_, rfl⟩
  rw [← hH12] at i1
  have m12 : jm H12 H9.1 = some (13, 7, o13 t (.ref e) kk.1 g1 g2 fu la) := by rw [hH12]; exact jm_s1
  have f12 : Fr H11 H12 (fun u => u = H9.1) := by rw [hH12]; exact Fr.set rfl
  have n12 : H12.1 = H11.1 ∧ H12.2.1 = H11.2.1 := by rw [hH12]; exact ⟨rfl, rfl⟩
  have ob9 := M9.1.1.2
  have oa9 := M9.1.1.1
  have F912 : Fr H9 H12 (fun u => u = a) := ((f10.mono fun _ _ z => z.elim).tr f11).new (f12.mono fun u _ z => Or.inr (by omega))
  have L12 : LstM H12 (q + 3) (S 2) (fun k b => RefF (Fz (Bs a q bt (S 0)) H9) b k S) := M9.2.2.2.2.1.up (F912.2.2 _ (by omega) (by omega)) fun _ _ _ _ x => x
  obtain ⟨H13, i2, i3, i4, i5, i6⟩ := L12.add (by omega) m12 (by show (13 : Nat) < 1000; omega)
  have k12 := k11.fr f12 (fun u _ z => Or.inr z) (by omega)
  have k13 := (k12.fr i3 (fun u _ z => Or.inl (Or.inr (Or.inl (by omega)))) (by omega)).less (B := Bs a q bt (S 0)) (fun u hu => Or.inl hu) (Or.inl rfl)
  have F913 : Fr H9 H13 (fun u => u = a ∨ u = q + 3) := (F912.mono fun _ _ z => Or.inl z).tr (i3.mono fun _ _ z => Or.inr z)
  have hk : refP g z l S nm p = .ok (refW S (S 2) t cc.1 cc.2.1 o kk.1 g1 g2 fu la, nm, may g z l (may g z l (nxt g z l (nxt g z l kk.2)) wFULL) wLATE) := by
    unfold refP
    rw [e2, eb_ok, e3, eb_ok, nt, if_neg (by decide), e5, eb_ok, e6, eb_ok, e7, eb_ok, e8, eb_ok, hfu, hla]
  obtain ⟨W', -⟩ := ref_W W f6 hk
  have i2' := i2 (d + 10)
  refine ⟨H13, ((f9.tr (f10.mono fun _ _ z => z.elim)).mono fun u _ z => by omega).tr (((f11.mono fun u _ z => by omega).tr (f12.mono fun u _ z => by omega)).tr (i3.mono fun u _ z => by omega)), by omega, by omega, none, ?_, rfl, bt, ?_⟩
  · rw [Y9011 H (jrecv_in mm rv), F9011_0]
    simp (disch := first | assumption | omega | decide | exact okF_i | exact okF_r | exact okF_n | exact okF_j | rfl) only [jc_ref, rI_int, rR_ref, rR_null, rJ_long, ckR_ref, ckR_null, ckr_ref, ckr_null, ckW_int, ckW_ref, ckW_null, cI_ok, cR_ok, cR_null, cV_ok, cJ_ok, qH_eq, qD_in, aG_ref, aS_ref, aL_ref, pF_ref, cK_ref, cK_null, zI_lit, zJ_lit, zI_add, zI_sub, zI_mul, zI_neg, zI_eq, zI_lt, zI_le, Int.reduceLT, Int.reduceLE, Int.reduceAdd, Int.reduceSub, Int.reduceMul, Int.reduceNeg, Int.reduceEq, Int.reduceNe, reduceIte, jf_in, pFc_in, aGi, aGb, aSi, aLc_in, cKc_in, nA_in, jm_s1, jm_s2, jm_p1, jm_p2, jm_b, jn_b, jn_s, jn_p, jset_jset, jset_jpush2, ckR_is, ckr_is, rR_is, ckW_is, cR_is, obi2, ckW_int, eq_self, if_true, ref_null, if_false, ne_eq, not_true_eq_false, not_false_eq_true, decide_true, decide_false, decide_not, Bool.true_and, Bool.false_and, Bool.and_true, Bool.and_false, Bool.true_or, Bool.false_or, Bool.or_true, Bool.or_false, Bool.not_true, Bool.not_false, Bool.false_eq_true, bI_t, bI_f, Int.natCast_one, Int.cast_ofNat_Int, Int.natCast_zero, ju_self, ju_ne, o3_0, o3_1, o3_2, o3_3, o3_4, n13, o13s_0, o13s_1, o13s_2, o13s_3, o13s_4, o13s_5, o13s_6, mm, f4, h1, sz, r1, r2, r3, j1, j2, j4, j5, r5, m5e, eN, r6, r7, r8, a34, r9, mm9, f49, h19, ← hH10, a35, r11, i1, i2']
  rw [← hfu, ← hla]
  show RdC (Bs a q bt (refW S (S 2) t cc.1 cc.2.1 o kk.1 g1 g2 fu la 0)) H13 a 9 n tp q g z l x y _ ∧ SchM H13 a q bt (refW S (S 2) t cc.1 cc.2.1 o kk.1 g1 g2 fu la 0) (refW S (S 2) t cc.1 cc.2.1 o kk.1 g1 g2 fu la 0) ln (refW S (S 2) t cc.1 cc.2.1 o kk.1 g1 g2 fu la) (nmS nm)
  change HsW (refW S (S 2) t cc.1 cc.2.1 o kk.1 g1 g2 fu la) at W'
  have ee : ∀ i, i ≠ 2 → (∀ j : Int, 0 ≤ j → j < 9 → i ≠ 58 + 6 * j + S 2) → refW S (S 2) t cc.1 cc.2.1 o kk.1 g1 g2 fu la i = S i := fun i i0 ij => by
    have j0 := ij 0 (by omega) (by omega)
    have j1 := ij 1 (by omega) (by omega)
    have j2 := ij 2 (by omega) (by omega)
    have j3 := ij 3 (by omega) (by omega)
    have j4 := ij 4 (by omega) (by omega)
    have j5 := ij 5 (by omega) (by omega)
    have j6 := ij 6 (by omega) (by omega)
    have j7 := ij 7 (by omega) (by omega)
    have j8 := ij 8 (by omega) (by omega)
    unfold refW
    simp (disch := omega) only [fset_ne]
  have e_2 : refW S (S 2) t cc.1 cc.2.1 o kk.1 g1 g2 fu la 2 = S 2 + 1 := by unfold refW; exact fset_eq
  have e_58 : refW S (S 2) t cc.1 cc.2.1 o kk.1 g1 g2 fu la (58 + S 2) = t := by unfold refW; simp (disch := omega) only [fset_ne, fset_eq]
  have e_64 : refW S (S 2) t cc.1 cc.2.1 o kk.1 g1 g2 fu la (64 + S 2) = cc.1 := by unfold refW; simp (disch := omega) only [fset_ne, fset_eq]
  have e_70 : refW S (S 2) t cc.1 cc.2.1 o kk.1 g1 g2 fu la (70 + S 2) = cc.2.1 := by unfold refW; simp (disch := omega) only [fset_ne, fset_eq]
  have e_82 : refW S (S 2) t cc.1 cc.2.1 o kk.1 g1 g2 fu la (82 + S 2) = kk.1 := by unfold refW; simp (disch := omega) only [fset_ne, fset_eq]
  have e_88 : refW S (S 2) t cc.1 cc.2.1 o kk.1 g1 g2 fu la (88 + S 2) = g1 := by unfold refW; simp (disch := omega) only [fset_ne, fset_eq]
  have e_94 : refW S (S 2) t cc.1 cc.2.1 o kk.1 g1 g2 fu la (94 + S 2) = g2 := by unfold refW; simp (disch := omega) only [fset_ne, fset_eq]
  have e_100 : refW S (S 2) t cc.1 cc.2.1 o kk.1 g1 g2 fu la (100 + S 2) = fu := by unfold refW; simp (disch := omega) only [fset_ne, fset_eq]
  have e_106 : refW S (S 2) t cc.1 cc.2.1 o kk.1 g1 g2 fu la (106 + S 2) = la := by unfold refW; simp (disch := omega) only [fset_ne, fset_eq]
  generalize refW S (S 2) t cc.1 cc.2.1 o kk.1 g1 g2 fu la = S' at W' ee e_2 e_58 e_64 e_70 e_82 e_88 e_94 e_100 e_106 ⊢
  rw [ee 0 (by omega) (by omega)]
  have sb : Sub (Fz (Bs a q bt (S 0)) H9) (Fz (Bs a q bt (S 0)) H13) := Fz_sub F913 fun u _ z => z.elim Or.inl fun z => Or.inr (Or.inl (by omega))
  have s39 : Sub (Fz (Bs a q bt (S 0)) H3) (Fz (Bs a q bt (S 0)) H9) := s35.tr (Fz_sub (((f6'.tr f7).tr f8).tr f9) fun u _ z => Or.inl z)
  have l13 := F913.1
  have zb : Fz (Bs a q bt (S 0)) H13 H9.1 = some (13, 7, o13 t (.ref e) kk.1 g1 g2 fu la) := Fz_in (by have := f12.1; have := i3.1; omega) nb ((i3.2.2 _ (by omega) (by omega)).trans m12)
  refine ⟨k13, M9.up3 (P0 := fun u => u = a ∨ u = q + 3) F913 (fun u z => z.elim Or.inl fun z => Or.inr (by omega)) W' (fun i i0 i1 => ee i (by omega) (by omega)) ?_ ?_ ?_ (by omega) (by omega) fun k k0 k1 => by rw [ee 3 (by omega) (by omega)] at k0; rw [ee _ (by omega) (by omega)]; exact M9.2.2.2.2.2.2.2.1.2 k k0 k1⟩
  · rw [ee 1 (by omega) (by omega)]
    exact M9.2.2.2.1.up (F913.2.2 _ (by omega) (by omega)) fun k u k0 k1 z => z.cg sb (ee _ (by omega) (by omega)) (ee _ (by omega) (by omega)) (ee _ (by omega) (by omega))
  · rw [e_2]
    refine i6 _ (fun k u k0 k1 z => z.cg sb fun j j0 j1 => ee _ (by omega) (by omega)) ⟨e, ?_, ?_⟩
    · rw [e_58, e_82, e_88, e_94, e_100, e_106]; exact zb
    · rw [e_64, e_70]; exact cf.sub (s39.tr sb)
  · rw [ee 3 (by omega) (by omega)]
    exact M9.2.2.2.2.2.1.up (F913.2.2 _ (by omega) (by omega)) fun k u k0 k1 z => z.cg sb (ee _ (by omega) (by omega)) (ee _ (by omega) (by omega)) (ee _ (by omega) (by omega)) (ee _ (by omega) (by omega)) (ee _ (by omega) (by omega)) (ee _ (by omega) (by omega))
end
