/-! the component's reader: tables and columns of a schema -/
-- jc_ref, rI_int, rR_ref, rR_null, rJ_long, ckR_ref, ckR_null, ckr_ref, ckr_null, ckW_int, ckW_ref, ckW_null, cI_ok, cR_ok, cR_null, cV_ok, cJ_ok, qH_eq, qD_in, aG_ref, aS_ref, aL_ref, pF_ref, cK_ref, cK_null, zI_lit, zJ_lit, zI_add, zI_sub, zI_mul, zI_neg, zI_eq, zI_lt, zI_le, Int.reduceLT, Int.reduceLE, Int.reduceAdd, Int.reduceSub, Int.reduceMul, Int.reduceNeg, Int.reduceEq, Int.reduceNe, reduceIte, jf_in, pFc_in, aGi, aGb, aSi, aLc_in, cKc_in, nA_in, jm_s1, jm_s2, jm_p1, jm_p2, jm_b, jn_b, jn_s, jn_p, jset_jset, jset_jpush2, ckR_is, ckr_is, rR_is, ckW_is, cR_is, obi2, ckW_int, eq_self, if_true, ref_null, if_false, ne_eq, not_true_eq_false, not_false_eq_true, decide_true, decide_false, decide_not, Bool.true_and, Bool.false_and, Bool.and_true, Bool.and_false, Bool.true_or, Bool.false_or, Bool.or_true, Bool.or_false, Bool.not_true, Bool.not_false, Bool.false_eq_true, bI_t, bI_f, Int.natCast_one, Int.cast_ofNat_Int, Int.natCast_zero, ju_self, ju_ne = jc_ref, rI_int, rR_ref, rR_null, rJ_long, ckR_ref, ckR_null, ckr_ref, ckr_null, ckW_int, ckW_ref, ckW_null, cI_ok, cR_ok, cR_null, cV_ok, cJ_ok, qH_eq, qD_in, aG_ref, aS_ref, aL_ref, pF_ref, cK_ref, cK_null, zI_lit, zJ_lit, zI_add, zI_sub, zI_mul, zI_neg, zI_eq, zI_lt, zI_le, Int.reduceLT, Int.reduceLE, Int.reduceAdd, Int.reduceSub, Int.reduceMul, Int.reduceNeg, Int.reduceEq, Int.reduceNe, reduceIte, jf_in, pFc_in, aGi, aGb, aSi, aLc_in, cKc_in, nA_in, jm_s1, jm_s2, jm_p1, jm_p2, jm_b, jn_b, jn_s, jn_p, jset_jset, jset_jpush2, ckR_is, ckr_is, rR_is, ckW_is, cR_is, obi2, ckW_int, eq_self, if_true, ref_null, if_false, ne_eq, not_true_eq_false, not_false_eq_true, decide_true, decide_false, decide_not, Bool.true_and, Bool.false_and, Bool.and_true, Bool.and_false, Bool.true_or, Bool.false_or, Bool.or_true, Bool.or_false, Bool.not_true, Bool.not_false, Bool.false_eq_true, bI_t, bI_f, Int.natCast_one, Int.cast_ofNat_Int, Int.natCast_zero, ju_self, ju_ne
/-- a schema's names, whatever is written to the cells C -/
def SchP (C : Nat → Prop) (H : AH) (sc : Nat) (S nm : Int → Int) : Prop := ∀ H2, Fr H H2 C → SchN H2 sc S nm
/-- a column's name, unlike another one -/
def holdP (g : Int → Int) (z l : Int) (S nm : Int → Int) (t but q : Int) : Except Er Int := eb (lookP g z l (fun c => nm (4 + 4 * t + c)) (S (4 + t)).toNat q) fun c => if c = but then .error (erx g z l q 3) else .ok c
section
variable {d : Nat} {H H2 : AH} {a b t n tp sc w c s c2 s2 : Nat} {f : Nat → Value} {g : Int → Int} {z l p q k o tt but : Int} {F : Nat → Option Cl} {B P Q C C2 : Nat → Prop} {x y : Value} {S nm : Int → Int} {sw : List Int}
theorem SchP.fr (h : SchP C H sc S nm) (fr : Fr H H2 P) (hP : ∀ u, P u → C u) : SchP C H2 sc S nm := fun H3 f3 => h H3 ((fr.mono fun u _ e => hP u e).tr f3)
theorem SchP.ns (h : SchP C H sc S nm) : SchN H sc S nm := h H Fr.rf
theorem SchP.new (h : SchP C H sc S nm) (fr : Fr H H2 P) (hP : ∀ u, P u → C u) (h2 : ∀ u, C2 u → C u ∨ H.1 ≤ u) : SchP C2 H2 sc S nm := fun H3 f3 => h H3 ((fr.mono fun u _ e => hP u e).new (f3.mono fun u _ e => h2 u e))
theorem RdC.no (h : RdC B H a t n tp sc g z l x y q) (fr : Fr H H2 (fun _ => False)) : RdC B H2 a t n tp sc g z l x y q := h.fr fr (fun _ _ e => e.elim) fun e => e
theorem rc_table (h : RdC B H a t n tp sc g z l x y q) (hS : SchP C H sc S nm) (S0 : S 0 ≤ 1000) : CR (lookP g z l (fun k => nm k) (S 0).toNat q) (M2 (d + 7) 8016 [.ref a] H) H (fun u => u = a) 9 80 (fun v w H2 => w = some (.int (zI v)) ∧ RdC B H2 a t n tp sc g z l x y (nxt g z l q)) := by
  obtain ⟨f0, m00, t10, ht0, -⟩ := h.fs
  have rv : (jtRecv 8016).elem t = true := by rcases ht0 with e | e | e | e <;> subst e <;> rfl
  obtain ⟨H1, i1, i2, i3, i4⟩ := rc_isName (d := d + 1) h
  have h1 := h.no i2
  have S1 := hS.fr i2 fun _ e => e.elim
  obtain ⟨f, m0, t1, ht, f4, f5, -, -, -, -, -, w9, f9, s9⟩ := h1.fs
  have nd1 := fun b => rc_need (d := d + 1) h1 (b := b) (k := 1) (by omega) (by omega)
  have nd3 := fun b => rc_need (d := d + 1) h1 (b := b) (k := 3) (by omega) (by omega)
  rw [Y8016 H (jrecv_in m00 rv), F8016_0]
  unfold lookP
  cases e : isNm g z l q with
  | false =>
    rw [e] at i1
    have n1 := nd1 false
    rw [if_neg (by decide)] at n1
    obtain ⟨H2, r1, r2, r3, r4, r5⟩ := n1
    rw [if_pos rfl]
    refine ⟨H2, (i2.tr r2).mono fun _ _ u => u.elim, by omega, by omega, H1.1, ?_, r5⟩
    simp (disch := first | assumption | omega | decide | exact okF_i | exact okF_r | exact okF_n | exact okF_j | rfl) only [jc_ref, rI_int, rR_ref, rR_null, rJ_long, ckR_ref, ckR_null, ckr_ref, ckr_null, ckW_int, ckW_ref, ckW_null, cI_ok, cR_ok, cR_null, cV_ok, cJ_ok, qH_eq, qD_in, aG_ref, aS_ref, aL_ref, pF_ref, cK_ref, cK_null, zI_lit, zJ_lit, zI_add, zI_sub, zI_mul, zI_neg, zI_eq, zI_lt, zI_le, Int.reduceLT, Int.reduceLE, Int.reduceAdd, Int.reduceSub, Int.reduceMul, Int.reduceNeg, Int.reduceEq, Int.reduceNe, reduceIte, jf_in, pFc_in, aGi, aGb, aSi, aLc_in, cKc_in, nA_in, jm_s1, jm_s2, jm_p1, jm_p2, jm_b, jn_b, jn_s, jn_p, jset_jset, jset_jpush2, ckR_is, ckr_is, rR_is, ckW_is, cR_is, obi2, ckW_int, eq_self, if_true, ref_null, if_false, ne_eq, not_true_eq_false, not_false_eq_true, decide_true, decide_false, decide_not, Bool.true_and, Bool.false_and, Bool.and_true, Bool.and_false, Bool.true_or, Bool.false_or, Bool.or_true, Bool.or_false, Bool.not_true, Bool.not_false, Bool.false_eq_true, bI_t, bI_f, Int.natCast_one, Int.cast_ofNat_Int, Int.natCast_zero, ju_self, ju_ne, i1, r1, cV_th]
  | true =>
    rw [e] at i1
    have n1 := nd1 true
    rw [if_pos rfl] at n1
    have k1 : kd g z l q = 1 := by
      unfold isNm at e
      rw [Bool.and_eq_true, decide_eq_true_eq] at e
      exact e.1
    obtain ⟨s, s1, -, s2, s3⟩ := s9 k1
    have tf := c_tabFind (d := d + 3) S1.ns s1 s2
    rw [s3] at tf
    have fr := fnd_rg (f := fun k => decide (nm k = wdv g z q)) (S 0).toNat 0
    rw [if_neg (by decide)]
    generalize fnd (fun k => decide (nm k = wdv g z q)) (S 0).toNat 0 = v at tf fr ⊢
    by_cases c : v < 0
    · have ev : v = -1 := by omega
      subst ev
      have n3 := nd3 false
      rw [if_neg (by decide), bZ_f] at n3
      obtain ⟨H2, r1, r2, r3, r4, r5⟩ := n3
      rw [if_pos (by decide)]
      refine ⟨H2, (i2.tr r2).mono fun _ _ u => u.elim, by omega, by omega, H1.1, ?_, r5⟩
      simp (disch := first | assumption | omega | decide | exact okF_i | exact okF_r | exact okF_n | exact okF_j | rfl) only [jc_ref, rI_int, rR_ref, rR_null, rJ_long, ckR_ref, ckR_null, ckr_ref, ckr_null, ckW_int, ckW_ref, ckW_null, cI_ok, cR_ok, cR_null, cV_ok, cJ_ok, qH_eq, qD_in, aG_ref, aS_ref, aL_ref, pF_ref, cK_ref, cK_null, zI_lit, zJ_lit, zI_add, zI_sub, zI_mul, zI_neg, zI_eq, zI_lt, zI_le, Int.reduceLT, Int.reduceLE, Int.reduceAdd, Int.reduceSub, Int.reduceMul, Int.reduceNeg, Int.reduceEq, Int.reduceNe, reduceIte, jf_in, pFc_in, aGi, aGb, aSi, aLc_in, cKc_in, nA_in, jm_s1, jm_s2, jm_p1, jm_p2, jm_b, jn_b, jn_s, jn_p, jset_jset, jset_jpush2, ckR_is, ckr_is, rR_is, ckW_is, cR_is, obi2, ckW_int, eq_self, if_true, ref_null, if_false, ne_eq, not_true_eq_false, not_false_eq_true, decide_true, decide_false, decide_not, Bool.true_and, Bool.false_and, Bool.and_true, Bool.and_false, Bool.true_or, Bool.false_or, Bool.or_true, Bool.or_false, Bool.not_true, Bool.not_false, Bool.false_eq_true, bI_t, bI_f, Int.natCast_one, Int.cast_ofNat_Int, Int.natCast_zero, ju_self, ju_ne, i1, n1, m0, f4, f9, tf, r1, cV_th]
    · have n3 := nd3 true
      rw [if_pos rfl, bZ_t] at n3
      obtain ⟨H2, g1, g2, g3, g4, g5⟩ := rc_go (d := d + 4) h1
      rw [if_neg c]
      have nv : ¬ v = -1 := by omega
      refine ⟨H2, (i2.mono fun _ _ u => u.elim).tr g2, by omega, by omega, _, ?_, rfl, g5⟩
      simp (disch := first | assumption | omega | decide | exact okF_i | exact okF_r | exact okF_n | exact okF_j | rfl) only [jc_ref, rI_int, rR_ref, rR_null, rJ_long, ckR_ref, ckR_null, ckr_ref, ckr_null, ckW_int, ckW_ref, ckW_null, cI_ok, cR_ok, cR_null, cV_ok, cJ_ok, qH_eq, qD_in, aG_ref, aS_ref, aL_ref, pF_ref, cK_ref, cK_null, zI_lit, zJ_lit, zI_add, zI_sub, zI_mul, zI_neg, zI_eq, zI_lt, zI_le, Int.reduceLT, Int.reduceLE, Int.reduceAdd, Int.reduceSub, Int.reduceMul, Int.reduceNeg, Int.reduceEq, Int.reduceNe, reduceIte, jf_in, pFc_in, aGi, aGb, aSi, aLc_in, cKc_in, nA_in, jm_s1, jm_s2, jm_p1, jm_p2, jm_b, jn_b, jn_s, jn_p, jset_jset, jset_jpush2, ckR_is, ckr_is, rR_is, ckW_is, cR_is, obi2, ckW_int, eq_self, if_true, ref_null, if_false, ne_eq, not_true_eq_false, not_false_eq_true, decide_true, decide_false, decide_not, Bool.true_and, Bool.false_and, Bool.and_true, Bool.and_false, Bool.true_or, Bool.false_or, Bool.or_true, Bool.or_false, Bool.not_true, Bool.not_false, Bool.false_eq_true, bI_t, bI_f, Int.natCast_one, Int.cast_ofNat_Int, Int.natCast_zero, ju_self, ju_ne, i1, n1, m0, f4, f9, tf, nv, n3, g1]
theorem rc_hold (h : RdC B H a t n tp sc g z l x y q) (hS : SchP C H sc S nm) (S0 : S 0 ≤ 1000) (t0 : 0 ≤ tt) (t1 : tt < S 0) (c0 : 0 ≤ S (4 + tt)) (c4 : S (4 + tt) ≤ 1000) (hb : -1 ≤ but ∧ but ≤ 1000) : CR (holdP g z l S nm tt but q) (M2 (d + 7) 8005 [.ref a, .int (zI tt), .int (zI but)] H) H (fun _ => False) 5 50 (fun v w H2 => w = some (.int (zI v)) ∧ RdC B H2 a t n tp sc g z l x y q ∧ 0 ≤ v ∧ v < S (4 + tt) ∧ v ≠ but ∧ kd g z l q = 1) := by
  obtain ⟨f0, m00, t10, ht0, -⟩ := h.fs
  have rv : (jtRecv 8005).elem t = true := by rcases ht0 with e | e | e | e <;> subst e <;> rfl
  obtain ⟨H1, i1, i2, i3, i4⟩ := rc_isName (d := d + 1) h
  have h1 := h.no i2
  have S1 := hS.fr i2 fun _ e => e.elim
  obtain ⟨f, m0, te, ht, f4, f5, -, -, -, -, -, w9, f9, s9⟩ := h1.fs
  have nd1 := fun b => rc_need (d := d + 1) h1 (b := b) (k := 1) (by omega) (by omega)
  have nd3 := fun b => rc_need (d := d + 1) h1 (b := b) (k := 3) (by omega) (by omega)
  rw [Y8005 H (jrecv_in m00 rv), F8005_0]
  unfold holdP lookP
  cases e : isNm g z l q with
  | false =>
    rw [e] at i1
    have n1 := nd1 false
    rw [if_neg (by decide)] at n1
    obtain ⟨H2, r1, r2, r3, r4, r5⟩ := n1
    rw [if_pos rfl, eb_er]
    refine ⟨H2, i2.tr r2, by omega, by omega, H1.1, ?_, r5⟩
    simp (disch := first | assumption | omega | decide | exact okF_i | exact okF_r | exact okF_n | exact okF_j | rfl) only [jc_ref, rI_int, rR_ref, rR_null, rJ_long, ckR_ref, ckR_null, ckr_ref, ckr_null, ckW_int, ckW_ref, ckW_null, cI_ok, cR_ok, cR_null, cV_ok, cJ_ok, qH_eq, qD_in, aG_ref, aS_ref, aL_ref, pF_ref, cK_ref, cK_null, zI_lit, zJ_lit, zI_add, zI_sub, zI_mul, zI_neg, zI_eq, zI_lt, zI_le, Int.reduceLT, Int.reduceLE, Int.reduceAdd, Int.reduceSub, Int.reduceMul, Int.reduceNeg, Int.reduceEq, Int.reduceNe, reduceIte, jf_in, pFc_in, aGi, aGb, aSi, aLc_in, cKc_in, nA_in, jm_s1, jm_s2, jm_p1, jm_p2, jm_b, jn_b, jn_s, jn_p, jset_jset, jset_jpush2, ckR_is, ckr_is, rR_is, ckW_is, cR_is, obi2, ckW_int, eq_self, if_true, ref_null, if_false, ne_eq, not_true_eq_false, not_false_eq_true, decide_true, decide_false, decide_not, Bool.true_and, Bool.false_and, Bool.and_true, Bool.and_false, Bool.true_or, Bool.false_or, Bool.or_true, Bool.or_false, Bool.not_true, Bool.not_false, Bool.false_eq_true, bI_t, bI_f, Int.natCast_one, Int.cast_ofNat_Int, Int.natCast_zero, ju_self, ju_ne, i1, r1, cV_th]
  | true =>
    rw [e] at i1
    have n1 := nd1 true
    rw [if_pos rfl] at n1
    have k1 : kd g z l q = 1 := by
      unfold isNm at e
      rw [Bool.and_eq_true, decide_eq_true_eq] at e
      exact e.1
    obtain ⟨s, s1, -, s2, s3⟩ := s9 k1
    obtain ⟨n3', fs, qt, cap, mc, lst, a1, a2, a3, a4, a5, a6, a7⟩ := S1.ns
    obtain ⟨b, b1, b2⟩ := a7 tt t0 t1
    have ge := h_get (d := d + 5) a3 t0 (by omega) (by omega) (by omega)
    rw [b1] at ge
    have cf := c_colFind (d := d + 4) b2 s1 s2
    obtain ⟨m2, fb, -, -, bm, -⟩ := b2
    rw [s3] at cf
    have fr := fnd_rg (f := fun c => decide (nm (4 + 4 * tt + c) = wdv g z q)) (S (4 + tt)).toNat 0
    rw [if_neg (by decide)]
    generalize fnd (fun c => decide (nm (4 + 4 * tt + c) = wdv g z q)) (S (4 + tt)).toNat 0 = v at cf fr ⊢
    have e11 : ([11] : List Nat).elem 11 = true := rfl
    by_cases c : v < 0
    · have ev : v = -1 := by omega
      subst ev
      have n3 := nd3 false
      rw [if_neg (by decide), bZ_f] at n3
      obtain ⟨H2, r1, r2, r3, r4, r5⟩ := n3
      rw [if_pos (by decide), eb_er]
      refine ⟨H2, i2.tr r2, by omega, by omega, H1.1, ?_, r5⟩
      simp (disch := first | assumption | omega | decide | exact okF_i | exact okF_r | exact okF_n | exact okF_j | rfl) only [jc_ref, rI_int, rR_ref, rR_null, rJ_long, ckR_ref, ckR_null, ckr_ref, ckr_null, ckW_int, ckW_ref, ckW_null, cI_ok, cR_ok, cR_null, cV_ok, cJ_ok, qH_eq, qD_in, aG_ref, aS_ref, aL_ref, pF_ref, cK_ref, cK_null, zI_lit, zJ_lit, zI_add, zI_sub, zI_mul, zI_neg, zI_eq, zI_lt, zI_le, Int.reduceLT, Int.reduceLE, Int.reduceAdd, Int.reduceSub, Int.reduceMul, Int.reduceNeg, Int.reduceEq, Int.reduceNe, reduceIte, jf_in, pFc_in, aGi, aGb, aSi, aLc_in, cKc_in, nA_in, jm_s1, jm_s2, jm_p1, jm_p2, jm_b, jn_b, jn_s, jn_p, jset_jset, jset_jpush2, ckR_is, ckr_is, rR_is, ckW_is, cR_is, obi2, ckW_int, eq_self, if_true, ref_null, if_false, ne_eq, not_true_eq_false, not_false_eq_true, decide_true, decide_false, decide_not, Bool.true_and, Bool.false_and, Bool.and_true, Bool.and_false, Bool.true_or, Bool.false_or, Bool.or_true, Bool.or_false, Bool.not_true, Bool.not_false, Bool.false_eq_true, bI_t, bI_f, Int.natCast_one, Int.cast_ofNat_Int, Int.natCast_zero, ju_self, ju_ne, i1, n1, m0, f4, a1, a2, ge, bm, f9, cf, r1, cV_th]
    · rw [if_neg c, eb_ok]
      have nv : ¬ v = -1 := by omega
      by_cases cb : v = but
      · have n3 := nd3 false
        rw [if_neg (by decide), bZ_f] at n3
        obtain ⟨H2, r1, r2, r3, r4, r5⟩ := n3
        rw [if_pos cb]
        refine ⟨H2, i2.tr r2, by omega, by omega, H1.1, ?_, r5⟩
        simp (disch := first | assumption | omega | decide | exact okF_i | exact okF_r | exact okF_n | exact okF_j | rfl) only [jc_ref, rI_int, rR_ref, rR_null, rJ_long, ckR_ref, ckR_null, ckr_ref, ckr_null, ckW_int, ckW_ref, ckW_null, cI_ok, cR_ok, cR_null, cV_ok, cJ_ok, qH_eq, qD_in, aG_ref, aS_ref, aL_ref, pF_ref, cK_ref, cK_null, zI_lit, zJ_lit, zI_add, zI_sub, zI_mul, zI_neg, zI_eq, zI_lt, zI_le, Int.reduceLT, Int.reduceLE, Int.reduceAdd, Int.reduceSub, Int.reduceMul, Int.reduceNeg, Int.reduceEq, Int.reduceNe, reduceIte, jf_in, pFc_in, aGi, aGb, aSi, aLc_in, cKc_in, nA_in, jm_s1, jm_s2, jm_p1, jm_p2, jm_b, jn_b, jn_s, jn_p, jset_jset, jset_jpush2, ckR_is, ckr_is, rR_is, ckW_is, cR_is, obi2, ckW_int, eq_self, if_true, ref_null, if_false, ne_eq, not_true_eq_false, not_false_eq_true, decide_true, decide_false, decide_not, Bool.true_and, Bool.false_and, Bool.and_true, Bool.and_false, Bool.true_or, Bool.false_or, Bool.or_true, Bool.or_false, Bool.not_true, Bool.not_false, Bool.false_eq_true, bI_t, bI_f, Int.natCast_one, Int.cast_ofNat_Int, Int.natCast_zero, ju_self, ju_ne, i1, n1, m0, f4, a1, a2, ge, bm, f9, cf, nv, cb, r1, cV_th]
        try rw [if_neg (by omega)]
      · have n3 := nd3 true
        rw [if_pos rfl, bZ_t] at n3
        rw [if_neg cb]
        refine ⟨H1, i2, by omega, by omega, _, ?_, rfl, h1, by omega, by omega, cb, k1⟩
        simp (disch := first | assumption | omega | decide | exact okF_i | exact okF_r | exact okF_n | exact okF_j | rfl) only [jc_ref, rI_int, rR_ref, rR_null, rJ_long, ckR_ref, ckR_null, ckr_ref, ckr_null, ckW_int, ckW_ref, ckW_null, cI_ok, cR_ok, cR_null, cV_ok, cJ_ok, qH_eq, qD_in, aG_ref, aS_ref, aL_ref, pF_ref, cK_ref, cK_null, zI_lit, zJ_lit, zI_add, zI_sub, zI_mul, zI_neg, zI_eq, zI_lt, zI_le, Int.reduceLT, Int.reduceLE, Int.reduceAdd, Int.reduceSub, Int.reduceMul, Int.reduceNeg, Int.reduceEq, Int.reduceNe, reduceIte, jf_in, pFc_in, aGi, aGb, aSi, aLc_in, cKc_in, nA_in, jm_s1, jm_s2, jm_p1, jm_p2, jm_b, jn_b, jn_s, jn_p, jset_jset, jset_jpush2, ckR_is, ckr_is, rR_is, ckW_is, cR_is, obi2, ckW_int, eq_self, if_true, ref_null, if_false, ne_eq, not_true_eq_false, not_false_eq_true, decide_true, decide_false, decide_not, Bool.true_and, Bool.false_and, Bool.and_true, Bool.and_false, Bool.true_or, Bool.false_or, Bool.or_true, Bool.or_false, Bool.not_true, Bool.not_false, Bool.false_eq_true, bI_t, bI_f, Int.natCast_one, Int.cast_ofNat_Int, Int.natCast_zero, ju_self, ju_ne, i1, n1, m0, f4, a1, a2, ge, bm, f9, cf, nv, cb, n3]
theorem rc_col (h : RdC B H a t n tp sc g z l x y q) (hS : SchP C H sc S nm) (S0 : S 0 ≤ 1000) (t0 : 0 ≤ tt) (t1 : tt < S 0) (c0 : 0 ≤ S (4 + tt)) (c4 : S (4 + tt) ≤ 1000) (hb : -1 ≤ but ∧ but ≤ 1000) : CR (holdP g z l S nm tt but q) (M2 (d + 8) 8002 [.ref a, .int (zI tt), .int (zI but)] H) H (fun u => u = a) 9 90 (fun v w H2 => w = some (.int (zI v)) ∧ RdC B H2 a t n tp sc g z l x y (nxt g z l q) ∧ 0 ≤ v ∧ v < S (4 + tt) ∧ v ≠ but ∧ kd g z l q = 1) := by
  obtain ⟨f0, m00, t10, ht0, -⟩ := h.fs
  have rv : (jtRecv 8002).elem t = true := by rcases ht0 with e | e | e | e <;> subst e <;> rfl
  obtain ⟨H1, i2, i3, i4, i5⟩ := rc_hold (d := d) h hS S0 t0 t1 c0 c4 hb
  rw [Y8002 H (jrecv_in m00 rv), F8002_0]
  cases hr : holdP g z l S nm tt but q with
  | error e =>
    rw [hr] at i5
    obtain ⟨u, r5, r6⟩ := i5
    refine ⟨H1, i2.mono fun _ _ u => u.elim, by omega, by omega, u, ?_, r6⟩
    simp (disch := first | assumption | omega | decide | exact okF_i | exact okF_r | exact okF_n | exact okF_j | rfl) only [jc_ref, rI_int, rR_ref, rR_null, rJ_long, ckR_ref, ckR_null, ckr_ref, ckr_null, ckW_int, ckW_ref, ckW_null, cI_ok, cR_ok, cR_null, cV_ok, cJ_ok, qH_eq, qD_in, aG_ref, aS_ref, aL_ref, pF_ref, cK_ref, cK_null, zI_lit, zJ_lit, zI_add, zI_sub, zI_mul, zI_neg, zI_eq, zI_lt, zI_le, Int.reduceLT, Int.reduceLE, Int.reduceAdd, Int.reduceSub, Int.reduceMul, Int.reduceNeg, Int.reduceEq, Int.reduceNe, reduceIte, jf_in, pFc_in, aGi, aGb, aSi, aLc_in, cKc_in, nA_in, jm_s1, jm_s2, jm_p1, jm_p2, jm_b, jn_b, jn_s, jn_p, jset_jset, jset_jpush2, ckR_is, ckr_is, rR_is, ckW_is, cR_is, obi2, ckW_int, eq_self, if_true, ref_null, if_false, ne_eq, not_true_eq_false, not_false_eq_true, decide_true, decide_false, decide_not, Bool.true_and, Bool.false_and, Bool.and_true, Bool.and_false, Bool.true_or, Bool.false_or, Bool.or_true, Bool.or_false, Bool.not_true, Bool.not_false, Bool.false_eq_true, bI_t, bI_f, Int.natCast_one, Int.cast_ofNat_Int, Int.natCast_zero, ju_self, ju_ne, r5, cI_th]
  | ok v =>
    rw [hr] at i5
    obtain ⟨u, r5, rfl, r7, r8, r9, r10, r11⟩ := i5
    obtain ⟨H2, g1, g2, g3, g4, g5⟩ := rc_go (d := d + 5) r7
    refine ⟨H2, (i2.mono fun _ _ u => u.elim).tr g2, by omega, by omega, _, ?_, rfl, g5, r8, r9, r10, r11⟩
    simp (disch := first | assumption | omega | decide | exact okF_i | exact okF_r | exact okF_n | exact okF_j | rfl) only [jc_ref, rI_int, rR_ref, rR_null, rJ_long, ckR_ref, ckR_null, ckr_ref, ckr_null, ckW_int, ckW_ref, ckW_null, cI_ok, cR_ok, cR_null, cV_ok, cJ_ok, qH_eq, qD_in, aG_ref, aS_ref, aL_ref, pF_ref, cK_ref, cK_null, zI_lit, zJ_lit, zI_add, zI_sub, zI_mul, zI_neg, zI_eq, zI_lt, zI_le, Int.reduceLT, Int.reduceLE, Int.reduceAdd, Int.reduceSub, Int.reduceMul, Int.reduceNeg, Int.reduceEq, Int.reduceNe, reduceIte, jf_in, pFc_in, aGi, aGb, aSi, aLc_in, cKc_in, nA_in, jm_s1, jm_s2, jm_p1, jm_p2, jm_b, jn_b, jn_s, jn_p, jset_jset, jset_jpush2, ckR_is, ckr_is, rR_is, ckW_is, cR_is, obi2, ckW_int, eq_self, if_true, ref_null, if_false, ne_eq, not_true_eq_false, not_false_eq_true, decide_true, decide_false, decide_not, Bool.true_and, Bool.false_and, Bool.and_true, Bool.and_false, Bool.true_or, Bool.false_or, Bool.or_true, Bool.or_false, Bool.not_true, Bool.not_false, Bool.false_eq_true, bI_t, bI_f, Int.natCast_one, Int.cast_ofNat_Int, Int.natCast_zero, ju_self, ju_ne, r5, g1]
/-- more may be written: what is new -/
theorem RdC.more {B2 : Nat → Prop} (h : RdC B H a t n tp sc g z l x y q) (fr : Fr H H2 P) (hP : ∀ u, u < H.1 → P u → B u) (hn : ¬ P a) (h2 : ∀ u, B2 u → B u ∨ (H.1 ≤ u ∧ u < H2.1)) (h3 : ∀ u, B u → B2 u) : RdC B2 H2 a t n tp sc g z l x y q := by
  obtain ⟨K, ha, hB, R⟩ := h
  have sub : Sub (Fz B H) (Fz B2 H2) := fun u c hu => by
    obtain ⟨lt, nb⟩ := Fz_lt hu
    refine Fz_in (Nat.lt_of_lt_of_le lt fr.1) (fun hb => (h2 u hb).elim nb fun z => by omega) ?_
    rw [fr.2.2 u lt fun p => nb (hP u lt p)]
    exact Fz_F.m hu
  obtain ⟨f, h1, e2, e3, e4, e5, e6⟩ := R
  exact ⟨by rw [fr.2.1]; exact K.sub sub, h3 a ha, fun u hu => (h2 u hu).elim (fun z => Nat.lt_of_lt_of_le (hB u z) fr.1) fun z => z.2, f, h1.up ((fr.2.2 a e6 hn).trans h1.1) rfl rfl rfl h1.2.2.2.2.2.1 rfl, e2.sub sub, e3, e4, e5, Nat.lt_of_lt_of_le e6 fr.1⟩
/-- less may be written -/
theorem RdC.less {B2 : Nat → Prop} (h : RdC B2 H a t n tp sc g z l x y q) (h3 : ∀ u, B u → B2 u) (ha : B a) : RdC B H a t n tp sc g z l x y q := by
  obtain ⟨K, -, hB, f, h1, e2, e3⟩ := h
  have sub : Sub (Fz B2 H) (Fz B H) := fun u c hu => by
    obtain ⟨lt, nb⟩ := Fz_lt hu
    exact Fz_in lt (fun hb => nb (h3 u hb)) (Fz_F.m hu)
  exact ⟨K.sub sub, ha, fun u hu => hB u (h3 u hu), f, h1, e2.sub sub, e3⟩
end
