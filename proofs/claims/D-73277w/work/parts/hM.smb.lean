/-! the component's reader of schemas: its small methods -/
-- jc_ref, rI_int, rR_ref, rR_null, rJ_long, ckR_ref, ckR_null, ckr_ref, ckr_null, ckW_int, ckW_ref, ckW_null, cI_ok, cR_ok, cR_null, cV_ok, cJ_ok, qH_eq, qD_in, aG_ref, aS_ref, aL_ref, pF_ref, cK_ref, cK_null, zI_lit, zJ_lit, zI_add, zI_sub, zI_mul, zI_neg, zI_eq, zI_lt, zI_le, Int.reduceLT, Int.reduceLE, Int.reduceAdd, Int.reduceSub, Int.reduceMul, Int.reduceNeg, Int.reduceEq, Int.reduceNe, reduceIte, jf_in, pFc_in, aGi, aGb, aSi, aLc_in, cKc_in, nA_in, jm_s1, jm_s2, jm_p1, jm_p2, jm_b, jn_b, jn_s, jn_p, jset_jset, jset_jpush2, ckR_is, ckr_is, rR_is, ckW_is, cR_is, obi2, ckW_int, eq_self, if_true, ref_null, if_false, ne_eq, not_true_eq_false, not_false_eq_true, decide_true, decide_false, decide_not, Bool.true_and, Bool.false_and, Bool.and_true, Bool.and_false, Bool.true_or, Bool.false_or, Bool.or_true, Bool.or_false, Bool.not_true, Bool.not_false, Bool.false_eq_true, bI_t, bI_f, Int.natCast_one, Int.cast_ofNat_Int, Int.natCast_zero, ju_self, ju_ne = jc_ref, rI_int, rR_ref, rR_null, rJ_long, ckR_ref, ckR_null, ckr_ref, ckr_null, ckW_int, ckW_ref, ckW_null, cI_ok, cR_ok, cR_null, cV_ok, cJ_ok, qH_eq, qD_in, aG_ref, aS_ref, aL_ref, pF_ref, cK_ref, cK_null, zI_lit, zJ_lit, zI_add, zI_sub, zI_mul, zI_neg, zI_eq, zI_lt, zI_le, Int.reduceLT, Int.reduceLE, Int.reduceAdd, Int.reduceSub, Int.reduceMul, Int.reduceNeg, Int.reduceEq, Int.reduceNe, reduceIte, jf_in, pFc_in, aGi, aGb, aSi, aLc_in, cKc_in, nA_in, jm_s1, jm_s2, jm_p1, jm_p2, jm_b, jn_b, jn_s, jn_p, jset_jset, jset_jpush2, ckR_is, ckr_is, rR_is, ckW_is, cR_is, obi2, ckW_int, eq_self, if_true, ref_null, if_false, ne_eq, not_true_eq_false, not_false_eq_true, decide_true, decide_false, decide_not, Bool.true_and, Bool.false_and, Bool.and_true, Bool.and_false, Bool.true_or, Bool.false_or, Bool.or_true, Bool.or_false, Bool.not_true, Bool.not_false, Bool.false_eq_true, bI_t, bI_f, Int.natCast_one, Int.cast_ofNat_Int, Int.natCast_zero, ju_self, ju_ne
section
variable {d : Nat} {H H2 : AH} {a b q n tp c s c2 s2 : Nat} {m ln t tt but : Int} {B P C : Nat → Prop} {S nm g : Int → Int} {bt : Int → Nat} {z l p : Int} {x y : Value}
theorem mvR (h : RdC B H a 9 n tp q g z l x y p) : (∀ d w, MvH d 9113 [.ref a, w] H = M2 d 8006 [.ref a, w] H) ∧ (∀ d v w, MvH d 9114 [.ref a, v, w] H = M2 d 8012 [.ref a, v, w] H) ∧ (∀ d, MvH d 9115 [.ref a] H = M2 d 8016 [.ref a] H) ∧ (∀ d v w, MvH d 9116 [.ref a, v, w] H = M2 d 8002 [.ref a, v, w] H) ∧ (∀ d, MvH d 9117 [.ref a] H = M2 d 8017 [.ref a] H) ∧ (∀ d, MvH d 9118 [.ref a] H = M2 d 8009 [.ref a] H) ∧ (∀ d v w, MvH d 9119 [.ref a, v, w] H = M2 d 8013 [.ref a, v, w] H) ∧ (∀ d, MvH d 9120 [.ref a] H = M2 d 8004 [.ref a] H) ∧ (∀ d v w, MvH d 9121 [.ref a, v, w] H = M2 d 8005 [.ref a, v, w] H) ∧ (∀ d, MvH d 9122 [.ref a] H = M2 d 8003 [.ref a] H) := by
  obtain ⟨f, m0, -⟩ := h.fs
  refine ⟨fun d w => ?_, fun d v w => ?_, fun d => ?_, fun d v w => ?_, fun d => ?_, fun d => ?_, fun d v w => ?_, fun d => ?_, fun d v w => ?_, fun d => ?_⟩ <;> (simp only [MvH, m0]; rfl)
theorem rdc9 (h : RdC B H a 9 n tp q g z l x y p) : ∃ f, jm H a = some (9, n, f) ∧ ([9, 15, 27, 29] : List Nat).elem 9 = true ∧ f 4 = .ref q ∧ a < H.1 := by
  obtain ⟨f, m0, -, -, f4, -⟩ := h.fs
  exact ⟨f, m0, rfl, f4, h.2.2.1 a h.2.1⟩
/-- is there room for one more -/
theorem rs_room (h : RdC B H a 9 n tp q g z l x y p) {v mx : Int} (v0 : 0 ≤ v) (v1 : v ≤ 1000) (m0 : 0 ≤ mx) (m1 : mx ≤ 1000) : CR (if mx ≤ v then .error (erx g z l p 4) else .ok (nxt g z l p)) (M2 (d + 6) 9003 [.ref a, .int (zI v), .int (zI mx)] H) H (fun u => u = a) 4 31 (fun v w H2 => w = none ∧ RdC B H2 a 9 n tp q g z l x y v) := by
  obtain ⟨f, mm, -⟩ := rdc9 h
  have rv : (jtRecv 9003).elem 9 = true := rfl
  obtain ⟨-, mn, -, -, -, -, -, mg, -⟩ := mvR h
  have nd := fun b => rc_need (d := d) h (b := b) (k := 4) (by omega) (by omega)
  rw [Y9003 H (jrecv_in mm rv), F9003_0]
  by_cases c : mx ≤ v
  · have n1 := nd false
    rw [if_neg (by decide), bZ_f] at n1
    obtain ⟨H2, r1, r2, r3, r4, r5⟩ := n1
    have r1' := (mn (d + 5) _ _).trans r1
    rw [if_pos c]
    refine ⟨H2, r2.mono fun _ _ u => u.elim, by omega, by omega, H.1, ?_, r5⟩
    simp (disch := first | assumption | omega | decide | exact okF_i | exact okF_r | exact okF_n | exact okF_j | rfl) only [jc_ref, rI_int, rR_ref, rR_null, rJ_long, ckR_ref, ckR_null, ckr_ref, ckr_null, ckW_int, ckW_ref, ckW_null, cI_ok, cR_ok, cR_null, cV_ok, cJ_ok, qH_eq, qD_in, aG_ref, aS_ref, aL_ref, pF_ref, cK_ref, cK_null, zI_lit, zJ_lit, zI_add, zI_sub, zI_mul, zI_neg, zI_eq, zI_lt, zI_le, Int.reduceLT, Int.reduceLE, Int.reduceAdd, Int.reduceSub, Int.reduceMul, Int.reduceNeg, Int.reduceEq, Int.reduceNe, reduceIte, jf_in, pFc_in, aGi, aGb, aSi, aLc_in, cKc_in, nA_in, jm_s1, jm_s2, jm_p1, jm_p2, jm_b, jn_b, jn_s, jn_p, jset_jset, jset_jpush2, ckR_is, ckr_is, rR_is, ckW_is, cR_is, obi2, ckW_int, eq_self, if_true, ref_null, if_false, ne_eq, not_true_eq_false, not_false_eq_true, decide_true, decide_false, decide_not, Bool.true_and, Bool.false_and, Bool.and_true, Bool.and_false, Bool.true_or, Bool.false_or, Bool.or_true, Bool.or_false, Bool.not_true, Bool.not_false, Bool.false_eq_true, bI_t, bI_f, Int.natCast_one, Int.cast_ofNat_Int, Int.natCast_zero, ju_self, ju_ne]
    rw [if_pos c]
    simp (disch := first | assumption | omega | decide | exact okF_i | exact okF_r | exact okF_n | exact okF_j | rfl) only [jc_ref, rI_int, rR_ref, rR_null, rJ_long, ckR_ref, ckR_null, ckr_ref, ckr_null, ckW_int, ckW_ref, ckW_null, cI_ok, cR_ok, cR_null, cV_ok, cJ_ok, qH_eq, qD_in, aG_ref, aS_ref, aL_ref, pF_ref, cK_ref, cK_null, zI_lit, zJ_lit, zI_add, zI_sub, zI_mul, zI_neg, zI_eq, zI_lt, zI_le, Int.reduceLT, Int.reduceLE, Int.reduceAdd, Int.reduceSub, Int.reduceMul, Int.reduceNeg, Int.reduceEq, Int.reduceNe, reduceIte, jf_in, pFc_in, aGi, aGb, aSi, aLc_in, cKc_in, nA_in, jm_s1, jm_s2, jm_p1, jm_p2, jm_b, jn_b, jn_s, jn_p, jset_jset, jset_jpush2, ckR_is, ckr_is, rR_is, ckW_is, cR_is, obi2, ckW_int, eq_self, if_true, ref_null, if_false, ne_eq, not_true_eq_false, not_false_eq_true, decide_true, decide_false, decide_not, Bool.true_and, Bool.false_and, Bool.and_true, Bool.and_false, Bool.true_or, Bool.false_or, Bool.or_true, Bool.or_false, Bool.not_true, Bool.not_false, Bool.false_eq_true, bI_t, bI_f, Int.natCast_one, Int.cast_ofNat_Int, Int.natCast_zero, ju_self, ju_ne, r1', cV_th]
  · have n1 := nd true
    rw [if_pos rfl, bZ_t] at n1
    have r1' := (mn (d + 5) _ _).trans n1
    obtain ⟨H2, g1, g2, g3, g4, g5⟩ := rc_go (d := d + 3) h
    have g1' := (mg (d + 5)).trans g1
    rw [if_neg c]
    refine ⟨H2, g2, g3, g4, none, ?_, rfl, g5⟩
    simp (disch := first | assumption | omega | decide | exact okF_i | exact okF_r | exact okF_n | exact okF_j | rfl) only [jc_ref, rI_int, rR_ref, rR_null, rJ_long, ckR_ref, ckR_null, ckr_ref, ckr_null, ckW_int, ckW_ref, ckW_null, cI_ok, cR_ok, cR_null, cV_ok, cJ_ok, qH_eq, qD_in, aG_ref, aS_ref, aL_ref, pF_ref, cK_ref, cK_null, zI_lit, zJ_lit, zI_add, zI_sub, zI_mul, zI_neg, zI_eq, zI_lt, zI_le, Int.reduceLT, Int.reduceLE, Int.reduceAdd, Int.reduceSub, Int.reduceMul, Int.reduceNeg, Int.reduceEq, Int.reduceNe, reduceIte, jf_in, pFc_in, aGi, aGb, aSi, aLc_in, cKc_in, nA_in, jm_s1, jm_s2, jm_p1, jm_p2, jm_b, jn_b, jn_s, jn_p, jset_jset, jset_jpush2, ckR_is, ckr_is, rR_is, ckW_is, cR_is, obi2, ckW_int, eq_self, if_true, ref_null, if_false, ne_eq, not_true_eq_false, not_false_eq_true, decide_true, decide_false, decide_not, Bool.true_and, Bool.false_and, Bool.and_true, Bool.and_false, Bool.true_or, Bool.false_or, Bool.or_true, Bool.or_false, Bool.not_true, Bool.not_false, Bool.false_eq_true, bI_t, bI_f, Int.natCast_one, Int.cast_ofNat_Int, Int.natCast_zero, ju_self, ju_ne]
    rw [if_neg c]
    simp (disch := first | assumption | omega | decide | exact okF_i | exact okF_r | exact okF_n | exact okF_j | rfl) only [jc_ref, rI_int, rR_ref, rR_null, rJ_long, ckR_ref, ckR_null, ckr_ref, ckr_null, ckW_int, ckW_ref, ckW_null, cI_ok, cR_ok, cR_null, cV_ok, cJ_ok, qH_eq, qD_in, aG_ref, aS_ref, aL_ref, pF_ref, cK_ref, cK_null, zI_lit, zJ_lit, zI_add, zI_sub, zI_mul, zI_neg, zI_eq, zI_lt, zI_le, Int.reduceLT, Int.reduceLE, Int.reduceAdd, Int.reduceSub, Int.reduceMul, Int.reduceNeg, Int.reduceEq, Int.reduceNe, reduceIte, jf_in, pFc_in, aGi, aGb, aSi, aLc_in, cKc_in, nA_in, jm_s1, jm_s2, jm_p1, jm_p2, jm_b, jn_b, jn_s, jn_p, jset_jset, jset_jpush2, ckR_is, ckr_is, rR_is, ckW_is, cR_is, obi2, ckW_int, eq_self, if_true, ref_null, if_false, ne_eq, not_true_eq_false, not_false_eq_true, decide_true, decide_false, decide_not, Bool.true_and, Bool.false_and, Bool.and_true, Bool.and_false, Bool.true_or, Bool.false_or, Bool.or_true, Bool.or_false, Bool.not_true, Bool.not_false, Bool.false_eq_true, bI_t, bI_f, Int.natCast_one, Int.cast_ofNat_Int, Int.natCast_zero, ju_self, ju_ne, r1', g1']
/-- a word that may be there -/
theorem rs_may (h : RdC B H a 9 n tp q g z l x y p) {k : Nat} (k0 : 9 ≤ k) (k1 : k < 47) (hb : NmB (bsL k)) : ∃ w, je H k = .ref w ∧ ∃ H2, M2 (d + 3) 9007 [.ref a, .ref w] H = some (.inl (some (.int (zI (bZ (isW g z l p (pk (bsL k))))))), H2) ∧ Fr H H2 (fun u => u = a) ∧ H2.1 ≤ H.1 + 4 ∧ H2.2.1 ≤ H.2.1 + 31 ∧ RdC B H2 a 9 n tp q g z l x y (may g z l p (pk (bsL k))) := by
  obtain ⟨f, mm, -⟩ := rdc9 h
  have rv : (jtRecv 9007).elem 9 = true := rfl
  obtain ⟨mi, -, -, -, -, -, -, mg, -⟩ := mvR h
  obtain ⟨w, w1, w2⟩ := rc_isE h k0 k1 hb
  refine ⟨w, w1, ?_⟩
  unfold may
  have w2 := w2 d
  cases e : isW g z l p (pk (bsL k)) with
  | true =>
    rw [e, bZ_t] at w2
    have w2' := (mi (d + 2) _).trans w2
    obtain ⟨H2, g1, g2, g3, g4, g5⟩ := rc_go (d := d) h
    have g1' := (mg (d + 2)).trans g1
    refine ⟨H2, ?_, g2, g3, g4, by rw [if_pos rfl]; exact g5⟩
    rw [Y9007 H rfl (jrecv_in mm rv), F9007_0]
    simp (disch := first | assumption | omega | decide | exact okF_i | exact okF_r | exact okF_n | exact okF_j | rfl) only [jc_ref, rI_int, rR_ref, rR_null, rJ_long, ckR_ref, ckR_null, ckr_ref, ckr_null, ckW_int, ckW_ref, ckW_null, cI_ok, cR_ok, cR_null, cV_ok, cJ_ok, qH_eq, qD_in, aG_ref, aS_ref, aL_ref, pF_ref, cK_ref, cK_null, zI_lit, zJ_lit, zI_add, zI_sub, zI_mul, zI_neg, zI_eq, zI_lt, zI_le, Int.reduceLT, Int.reduceLE, Int.reduceAdd, Int.reduceSub, Int.reduceMul, Int.reduceNeg, Int.reduceEq, Int.reduceNe, reduceIte, jf_in, pFc_in, aGi, aGb, aSi, aLc_in, cKc_in, nA_in, jm_s1, jm_s2, jm_p1, jm_p2, jm_b, jn_b, jn_s, jn_p, jset_jset, jset_jpush2, ckR_is, ckr_is, rR_is, ckW_is, cR_is, obi2, ckW_int, eq_self, if_true, ref_null, if_false, ne_eq, not_true_eq_false, not_false_eq_true, decide_true, decide_false, decide_not, Bool.true_and, Bool.false_and, Bool.and_true, Bool.and_false, Bool.true_or, Bool.false_or, Bool.or_true, Bool.or_false, Bool.not_true, Bool.not_false, Bool.false_eq_true, bI_t, bI_f, Int.natCast_one, Int.cast_ofNat_Int, Int.natCast_zero, ju_self, ju_ne, w2', g1', okZ_1, bZ_t]
  | false =>
    rw [e, bZ_f] at w2
    refine ⟨H, ?_, Fr.rf, by omega, by omega, by rw [if_neg (by decide)]; exact h⟩
    have w2' := (mi (d + 2) _).trans w2
    rw [Y9007 H rfl (jrecv_in mm rv), F9007_0]
    simp (disch := first | assumption | omega | decide | exact okF_i | exact okF_r | exact okF_n | exact okF_j | rfl) only [jc_ref, rI_int, rR_ref, rR_null, rJ_long, ckR_ref, ckR_null, ckr_ref, ckr_null, ckW_int, ckW_ref, ckW_null, cI_ok, cR_ok, cR_null, cV_ok, cJ_ok, qH_eq, qD_in, aG_ref, aS_ref, aL_ref, pF_ref, cK_ref, cK_null, zI_lit, zJ_lit, zI_add, zI_sub, zI_mul, zI_neg, zI_eq, zI_lt, zI_le, Int.reduceLT, Int.reduceLE, Int.reduceAdd, Int.reduceSub, Int.reduceMul, Int.reduceNeg, Int.reduceEq, Int.reduceNe, reduceIte, jf_in, pFc_in, aGi, aGb, aSi, aLc_in, cKc_in, nA_in, jm_s1, jm_s2, jm_p1, jm_p2, jm_b, jn_b, jn_s, jn_p, jset_jset, jset_jpush2, ckR_is, ckr_is, rR_is, ckW_is, cR_is, obi2, ckW_int, eq_self, if_true, ref_null, if_false, ne_eq, not_true_eq_false, not_false_eq_true, decide_true, decide_false, decide_not, Bool.true_and, Bool.false_and, Bool.and_true, Bool.and_false, Bool.true_or, Bool.false_or, Bool.or_true, Bool.or_false, Bool.not_true, Bool.not_false, Bool.false_eq_true, bI_t, bI_f, Int.natCast_one, Int.cast_ofNat_Int, Int.natCast_zero, ju_self, ju_ne, w2', okZ_0, bZ_f]
/-- what is done about a reference -/
theorem rs_on (h : RdC B H a 9 n tp q g z l x y p) : CR (onP g z l p) (M2 (d + 6) 9009 [.ref a] H) H (fun u => u = a) 4 31 (fun v w H2 => w = some (.int (zI v)) ∧ RdC B H2 a 9 n tp q g z l x y (nxt g z l p)) := by
  obtain ⟨f, mm, -⟩ := rdc9 h
  have rv : (jtRecv 9009).elem 9 = true := rfl
  obtain ⟨mi, mn, -, -, -, -, -, mg, -⟩ := mvR h
  obtain ⟨w1, a1, b1⟩ := rc_isE h (k := 29) (by omega) (by omega) (nmE (by decide))
  have b1' := (mi (d + 5) _).trans (b1 (d + 3))
  rw [show pk (bsL 29) = wREFUSE by decide] at b1'
  obtain ⟨w2, a2, b2⟩ := rc_isE h (k := 30) (by omega) (by omega) (nmE (by decide))
  have b2' := (mi (d + 5) _).trans (b2 (d + 3))
  rw [show pk (bsL 30) = wFOLLOW by decide] at b2'
  obtain ⟨w3, a3, b3⟩ := rc_isE h (k := 31) (by omega) (by omega) (nmE (by decide))
  have b3' := (mi (d + 5) _).trans (b3 (d + 3))
  rw [show pk (bsL 31) = wCLEAR by decide] at b3'
  obtain ⟨w4, a4, b4⟩ := rc_isE h (k := 32) (by omega) (by omega) (nmE (by decide))
  have b4' := (mi (d + 5) _).trans (b4 (d + 3))
  rw [show pk (bsL 32) = wRESET by decide] at b4'
  have run : M2 (d + 6) 9009 [.ref a] H = G2 (d + 5) 9009 53 [.ref a, jno] [.int (zI (onW g z l p))] H := by
    rw [Y9009 H (jrecv_in mm rv), F9009_0]
    unfold onW
    cases e1 : isW g z l p wREFUSE with
    | true =>
      rw [e1, bZ_t] at b1'
      simp (disch := first | assumption | omega | decide | exact okF_i | exact okF_r | exact okF_n | exact okF_j | rfl) only [jc_ref, rI_int, rR_ref, rR_null, rJ_long, ckR_ref, ckR_null, ckr_ref, ckr_null, ckW_int, ckW_ref, ckW_null, cI_ok, cR_ok, cR_null, cV_ok, cJ_ok, qH_eq, qD_in, aG_ref, aS_ref, aL_ref, pF_ref, cK_ref, cK_null, zI_lit, zJ_lit, zI_add, zI_sub, zI_mul, zI_neg, zI_eq, zI_lt, zI_le, Int.reduceLT, Int.reduceLE, Int.reduceAdd, Int.reduceSub, Int.reduceMul, Int.reduceNeg, Int.reduceEq, Int.reduceNe, reduceIte, jf_in, pFc_in, aGi, aGb, aSi, aLc_in, cKc_in, nA_in, jm_s1, jm_s2, jm_p1, jm_p2, jm_b, jn_b, jn_s, jn_p, jset_jset, jset_jpush2, ckR_is, ckr_is, rR_is, ckW_is, cR_is, obi2, ckW_int, eq_self, if_true, ref_null, if_false, ne_eq, not_true_eq_false, not_false_eq_true, decide_true, decide_false, decide_not, Bool.true_and, Bool.false_and, Bool.and_true, Bool.and_false, Bool.true_or, Bool.false_or, Bool.or_true, Bool.or_false, Bool.not_true, Bool.not_false, Bool.false_eq_true, bI_t, bI_f, Int.natCast_one, Int.cast_ofNat_Int, Int.natCast_zero, ju_self, ju_ne, a1, b1']
    | false =>
      rw [e1, bZ_f] at b1'
      cases e2 : isW g z l p wFOLLOW with
      | true =>
        rw [e2, bZ_t] at b2'
        simp (disch := first | assumption | omega | decide | exact okF_i | exact okF_r | exact okF_n | exact okF_j | rfl) only [jc_ref, rI_int, rR_ref, rR_null, rJ_long, ckR_ref, ckR_null, ckr_ref, ckr_null, ckW_int, ckW_ref, ckW_null, cI_ok, cR_ok, cR_null, cV_ok, cJ_ok, qH_eq, qD_in, aG_ref, aS_ref, aL_ref, pF_ref, cK_ref, cK_null, zI_lit, zJ_lit, zI_add, zI_sub, zI_mul, zI_neg, zI_eq, zI_lt, zI_le, Int.reduceLT, Int.reduceLE, Int.reduceAdd, Int.reduceSub, Int.reduceMul, Int.reduceNeg, Int.reduceEq, Int.reduceNe, reduceIte, jf_in, pFc_in, aGi, aGb, aSi, aLc_in, cKc_in, nA_in, jm_s1, jm_s2, jm_p1, jm_p2, jm_b, jn_b, jn_s, jn_p, jset_jset, jset_jpush2, ckR_is, ckr_is, rR_is, ckW_is, cR_is, obi2, ckW_int, eq_self, if_true, ref_null, if_false, ne_eq, not_true_eq_false, not_false_eq_true, decide_true, decide_false, decide_not, Bool.true_and, Bool.false_and, Bool.and_true, Bool.and_false, Bool.true_or, Bool.false_or, Bool.or_true, Bool.or_false, Bool.not_true, Bool.not_false, Bool.false_eq_true, bI_t, bI_f, Int.natCast_one, Int.cast_ofNat_Int, Int.natCast_zero, ju_self, ju_ne, a1, b1', a2, b2']
      | false =>
        rw [e2, bZ_f] at b2'
        cases e3 : isW g z l p wCLEAR with
        | true =>
          rw [e3, bZ_t] at b3'
          simp (disch := first | assumption | omega | decide | exact okF_i | exact okF_r | exact okF_n | exact okF_j | rfl) only [jc_ref, rI_int, rR_ref, rR_null, rJ_long, ckR_ref, ckR_null, ckr_ref, ckr_null, ckW_int, ckW_ref, ckW_null, cI_ok, cR_ok, cR_null, cV_ok, cJ_ok, qH_eq, qD_in, aG_ref, aS_ref, aL_ref, pF_ref, cK_ref, cK_null, zI_lit, zJ_lit, zI_add, zI_sub, zI_mul, zI_neg, zI_eq, zI_lt, zI_le, Int.reduceLT, Int.reduceLE, Int.reduceAdd, Int.reduceSub, Int.reduceMul, Int.reduceNeg, Int.reduceEq, Int.reduceNe, reduceIte, jf_in, pFc_in, aGi, aGb, aSi, aLc_in, cKc_in, nA_in, jm_s1, jm_s2, jm_p1, jm_p2, jm_b, jn_b, jn_s, jn_p, jset_jset, jset_jpush2, ckR_is, ckr_is, rR_is, ckW_is, cR_is, obi2, ckW_int, eq_self, if_true, ref_null, if_false, ne_eq, not_true_eq_false, not_false_eq_true, decide_true, decide_false, decide_not, Bool.true_and, Bool.false_and, Bool.and_true, Bool.and_false, Bool.true_or, Bool.false_or, Bool.or_true, Bool.or_false, Bool.not_true, Bool.not_false, Bool.false_eq_true, bI_t, bI_f, Int.natCast_one, Int.cast_ofNat_Int, Int.natCast_zero, ju_self, ju_ne, a1, b1', a2, b2', a3, b3']
        | false =>
          rw [e3, bZ_f] at b3'
          cases e4 : isW g z l p wRESET with
          | true =>
            rw [e4, bZ_t] at b4'
            simp (disch := first | assumption | omega | decide | exact okF_i | exact okF_r | exact okF_n | exact okF_j | rfl) only [jc_ref, rI_int, rR_ref, rR_null, rJ_long, ckR_ref, ckR_null, ckr_ref, ckr_null, ckW_int, ckW_ref, ckW_null, cI_ok, cR_ok, cR_null, cV_ok, cJ_ok, qH_eq, qD_in, aG_ref, aS_ref, aL_ref, pF_ref, cK_ref, cK_null, zI_lit, zJ_lit, zI_add, zI_sub, zI_mul, zI_neg, zI_eq, zI_lt, zI_le, Int.reduceLT, Int.reduceLE, Int.reduceAdd, Int.reduceSub, Int.reduceMul, Int.reduceNeg, Int.reduceEq, Int.reduceNe, reduceIte, jf_in, pFc_in, aGi, aGb, aSi, aLc_in, cKc_in, nA_in, jm_s1, jm_s2, jm_p1, jm_p2, jm_b, jn_b, jn_s, jn_p, jset_jset, jset_jpush2, ckR_is, ckr_is, rR_is, ckW_is, cR_is, obi2, ckW_int, eq_self, if_true, ref_null, if_false, ne_eq, not_true_eq_false, not_false_eq_true, decide_true, decide_false, decide_not, Bool.true_and, Bool.false_and, Bool.and_true, Bool.and_false, Bool.true_or, Bool.false_or, Bool.or_true, Bool.or_false, Bool.not_true, Bool.not_false, Bool.false_eq_true, bI_t, bI_f, Int.natCast_one, Int.cast_ofNat_Int, Int.natCast_zero, ju_self, ju_ne, a1, b1', a2, b2', a3, b3', a4, b4']
          | false =>
            rw [e4, bZ_f] at b4'
            simp (disch := first | assumption | omega | decide | exact okF_i | exact okF_r | exact okF_n | exact okF_j | rfl) only [jc_ref, rI_int, rR_ref, rR_null, rJ_long, ckR_ref, ckR_null, ckr_ref, ckr_null, ckW_int, ckW_ref, ckW_null, cI_ok, cR_ok, cR_null, cV_ok, cJ_ok, qH_eq, qD_in, aG_ref, aS_ref, aL_ref, pF_ref, cK_ref, cK_null, zI_lit, zJ_lit, zI_add, zI_sub, zI_mul, zI_neg, zI_eq, zI_lt, zI_le, Int.reduceLT, Int.reduceLE, Int.reduceAdd, Int.reduceSub, Int.reduceMul, Int.reduceNeg, Int.reduceEq, Int.reduceNe, reduceIte, jf_in, pFc_in, aGi, aGb, aSi, aLc_in, cKc_in, nA_in, jm_s1, jm_s2, jm_p1, jm_p2, jm_b, jn_b, jn_s, jn_p, jset_jset, jset_jpush2, ckR_is, ckr_is, rR_is, ckW_is, cR_is, obi2, ckW_int, eq_self, if_true, ref_null, if_false, ne_eq, not_true_eq_false, not_false_eq_true, decide_true, decide_false, decide_not, Bool.true_and, Bool.false_and, Bool.and_true, Bool.and_false, Bool.true_or, Bool.false_or, Bool.or_true, Bool.or_false, Bool.not_true, Bool.not_false, Bool.false_eq_true, bI_t, bI_f, Int.natCast_one, Int.cast_ofNat_Int, Int.natCast_zero, ju_self, ju_ne, a1, b1', a2, b2', a3, b3', a4, b4']
  have rg : -1 ≤ onW g z l p ∧ onW g z l p ≤ 3 := by
    unfold onW
    repeat' split
    all_goals omega
  rw [run, F9009_53]
  unfold onP
  generalize onW g z l p = v at rg ⊢
  have nd := fun b => rc_need (d := d) h (b := b) (k := 1) (by omega) (by omega)
  by_cases c : v < 0
  · have ev : v = -1 := by omega
    subst ev
    have n1 := nd false
    rw [if_neg (by decide), bZ_f] at n1
    obtain ⟨H2, r1, r2, r3, r4, r5⟩ := n1
    have r1' := (mn (d + 5) _ _).trans r1
    rw [if_pos c]
    refine ⟨H2, r2.mono fun _ _ u => u.elim, by omega, by omega, H.1, ?_, r5⟩
    simp (disch := first | assumption | omega | decide | exact okF_i | exact okF_r | exact okF_n | exact okF_j | rfl) only [jc_ref, rI_int, rR_ref, rR_null, rJ_long, ckR_ref, ckR_null, ckr_ref, ckr_null, ckW_int, ckW_ref, ckW_null, cI_ok, cR_ok, cR_null, cV_ok, cJ_ok, qH_eq, qD_in, aG_ref, aS_ref, aL_ref, pF_ref, cK_ref, cK_null, zI_lit, zJ_lit, zI_add, zI_sub, zI_mul, zI_neg, zI_eq, zI_lt, zI_le, Int.reduceLT, Int.reduceLE, Int.reduceAdd, Int.reduceSub, Int.reduceMul, Int.reduceNeg, Int.reduceEq, Int.reduceNe, reduceIte, jf_in, pFc_in, aGi, aGb, aSi, aLc_in, cKc_in, nA_in, jm_s1, jm_s2, jm_p1, jm_p2, jm_b, jn_b, jn_s, jn_p, jset_jset, jset_jpush2, ckR_is, ckr_is, rR_is, ckW_is, cR_is, obi2, ckW_int, eq_self, if_true, ref_null, if_false, ne_eq, not_true_eq_false, not_false_eq_true, decide_true, decide_false, decide_not, Bool.true_and, Bool.false_and, Bool.and_true, Bool.and_false, Bool.true_or, Bool.false_or, Bool.or_true, Bool.or_false, Bool.not_true, Bool.not_false, Bool.false_eq_true, bI_t, bI_f, Int.natCast_one, Int.cast_ofNat_Int, Int.natCast_zero, ju_self, ju_ne, r1', cV_th]
  · have n1 := nd true
    rw [if_pos rfl, bZ_t] at n1
    have r1' := (mn (d + 5) _ _).trans n1
    obtain ⟨H2, g1, g2, g3, g4, g5⟩ := rc_go (d := d + 3) h
    have g1' := (mg (d + 5)).trans g1
    have nv : ¬ v = -1 := by omega
    rw [if_neg c]
    refine ⟨H2, g2, g3, g4, _, ?_, rfl, g5⟩
    simp (disch := first | assumption | omega | decide | exact okF_i | exact okF_r | exact okF_n | exact okF_j | rfl) only [jc_ref, rI_int, rR_ref, rR_null, rJ_long, ckR_ref, ckR_null, ckr_ref, ckr_null, ckW_int, ckW_ref, ckW_null, cI_ok, cR_ok, cR_null, cV_ok, cJ_ok, qH_eq, qD_in, aG_ref, aS_ref, aL_ref, pF_ref, cK_ref, cK_null, zI_lit, zJ_lit, zI_add, zI_sub, zI_mul, zI_neg, zI_eq, zI_lt, zI_le, Int.reduceLT, Int.reduceLE, Int.reduceAdd, Int.reduceSub, Int.reduceMul, Int.reduceNeg, Int.reduceEq, Int.reduceNe, reduceIte, jf_in, pFc_in, aGi, aGb, aSi, aLc_in, cKc_in, nA_in, jm_s1, jm_s2, jm_p1, jm_p2, jm_b, jn_b, jn_s, jn_p, jset_jset, jset_jpush2, ckR_is, ckr_is, rR_is, ckW_is, cR_is, obi2, ckW_int, eq_self, if_true, ref_null, if_false, ne_eq, not_true_eq_false, not_false_eq_true, decide_true, decide_false, decide_not, Bool.true_and, Bool.false_and, Bool.and_true, Bool.and_false, Bool.true_or, Bool.false_or, Bool.or_true, Bool.or_false, Bool.not_true, Bool.not_false, Bool.false_eq_true, bI_t, bI_f, Int.natCast_one, Int.cast_ofNat_Int, Int.natCast_zero, ju_self, ju_ne, nv, r1', g1']
/-- one column, or two unlike ones -/
theorem rs_cols (h : RdC B H a 9 n tp q g z l x y p) (hS : SchP C H q S (nmS nm)) (ca : C a) (W0 : S 0 ≤ 4) (t0 : 0 ≤ tt) (t1 : tt < S 0) (c0 : 0 ≤ S (4 + tt)) (c4 : S (4 + tt) ≤ 4) :
    CRl g z l (colsP g z l S nm tt p) (M2 (d + 10) 9001 [.ref a, .int (zI tt)] H) H (fun u => u = a) 24 216 (fun v w H2 => RdC B H2 a 9 n tp q g z l x y v.2.2 ∧ (0 ≤ v.1 ∧ v.1 < S (4 + tt)) ∧ (-1 ≤ v.2.1 ∧ v.2.1 < S (4 + tt)) ∧ ∃ e, w = some (.ref e) ∧ H.1 ≤ e ∧ ColF (Fz B H2) e v.1 v.2.1) (fun p' w H2 => RdC B H2 a 9 n tp q g z l x y p' ∧ isW g z l p' wTO = false ∧ ∃ e, w = some (.ref e)) := by
  obtain ⟨f, mm, -, -, al⟩ := rdc9 h
  have rv : (jtRecv 9001).elem 9 = true := rfl
  obtain ⟨-, -, -, mc, -⟩ := mvR h
  obtain ⟨H1, a1, a2, a3, a4⟩ := rc_col (d := d + 1) (but := -1) h hS (by omega) t0 t1 c0 (by omega) (by omega)
  rw [hold_col] at a4
  rw [Y9001 H (jrecv_in mm rv), F9001_0]
  unfold colsP
  cases hr : colP g z l S nm tt p with
  | error er =>
    rw [hr] at a4
    obtain ⟨u, r5, r6⟩ := a4
    have r5' := (mc (d + 9) _ _).trans r5
    rw [eb_er]
    refine ⟨H1, a1, by omega, by omega, Or.inl ⟨u, ?_, r6⟩⟩
    rw [show ((-1 : Int32)) = zI (-1) from rfl, r5', cI_th]
  | ok one =>
    rw [hr] at a4
    obtain ⟨u, r5, rfl, h1, o0, o1, -, -⟩ := a4
    have r5' := (mc (d + 9) _ _).trans r5
    rw [eb_ok]
    have S1 := hS.fr a1 fun u z => by rw [z]; exact ca
    obtain ⟨-, -, -, -, -, mn1, -⟩ := mvR h1
    obtain ⟨H2, c1, c2, c3, c4'⟩ := rc_isName (d := d + 4) h1
    have c1' := (mn1 (d + 9)).trans c1
    have h2 := h1.no c2
    have S2 := S1.fr c2 fun u z => z.elim
    have F2 : Fr H H2 (fun u => u = a) := a1.tr (c2.mono fun _ _ z => z.elim)
    have al2 : a < H2.1 := Nat.lt_of_lt_of_le al F2.1
    have q1 : (zI 1).toNatClampNeg = 1 := by decide
    have q2 : (zI 2).toNatClampNeg = 2 := by decide
    cases hn : isNm g z l (nxt g z l p) with
    | false =>
      rw [hn, bZ_f] at c1'
      obtain ⟨H3, hH3⟩ : ∃ H3, H3 = jpush H2 (1000, 1, aI (fset (fun _ => 0) 0 one)) := ⟨_, rfl⟩
      have m1 : jm (jpush H2 (1000, 1, fun _ => .int (zI 0))) H2.1 = some (1000, 1, aI (fun _ => 0)) := jm_p1
      have m3 : jm H3 H2.1 = some (1000, 1, aI (fset (fun _ => 0) 0 one)) := by rw [hH3]; exact jm_p1
      have f3 : Fr H2 H3 (fun _ => False) := by rw [hH3]; exact Fr.push
      have n3 : H3.1 = H2.1 + 1 ∧ H3.2.1 = H2.2.1 + 1 := by rw [hH3]; exact ⟨rfl, rfl⟩
      have h3 := h2.no f3
      have z3 : Fz B H3 H2.1 = some (1000, 1, aI (fset (fun _ => 0) 0 one)) := Fz_in (by omega) (fun hb => by have := h2.2.2.1 _ hb; omega) m3
      have F3 : Fr H H3 (fun u => u = a) := F2.tr (f3.mono fun _ _ z => z.elim)
      have run : (zcI (MvH (d + 9) 9116 [.ref a, .int (zI tt), .int (-1)] H) (fun x1 h2 => zcI (MvH (d + 9) 9118 [.ref a] h2) (fun x3 h4 => if x3 = 0 then (zqN 1 (zqH (jpush h4 (1000, (1 : Int32).toNatClampNeg, fun _ => .int 0)) (fun h5 => zqS h5 (.ref h4.1) [1000] 0 (.int x1) (fun h6 => some (.inl (some (.ref h4.1)), h6)) ()) ()) ()) else (zqN 2 (zqH (jpush h4 (1000, (2 : Int32).toNatClampNeg, fun _ => .int 0)) (fun h7 => zqS h7 (.ref h4.1) [1000] 0 (.int x1) (fun h8 => zcI (MvH (d + 9) 9116 [.ref a, .int (zI tt), .int x1] h8) (fun x9 h10 => zqS h10 (.ref h4.1) [1000] 1 (.int x9) (fun h11 => some (.inl (some (.ref h4.1)), h11)) ()) ()) ()) ()) ())) ()) () : Rz) = some (.inl (some (.ref H2.1)), H3) := by
        simp (disch := first | assumption | omega | decide | exact okF_i | exact okF_r | exact okF_n | exact okF_j | rfl) only [jc_ref, rI_int, rR_ref, rR_null, rJ_long, ckR_ref, ckR_null, ckr_ref, ckr_null, ckW_int, ckW_ref, ckW_null, cI_ok, cR_ok, cR_null, cV_ok, cJ_ok, qH_eq, qD_in, aG_ref, aS_ref, aL_ref, pF_ref, cK_ref, cK_null, zI_lit, zJ_lit, zI_add, zI_sub, zI_mul, zI_neg, zI_eq, zI_lt, zI_le, Int.reduceLT, Int.reduceLE, Int.reduceAdd, Int.reduceSub, Int.reduceMul, Int.reduceNeg, Int.reduceEq, Int.reduceNe, reduceIte, jf_in, pFc_in, aGi, aGb, aSi, aLc_in, cKc_in, nA_in, jm_s1, jm_s2, jm_p1, jm_p2, jm_b, jn_b, jn_s, jn_p, jset_jset, jset_jpush2, ckR_is, ckr_is, rR_is, ckW_is, cR_is, obi2, ckW_int, eq_self, if_true, ref_null, if_false, ne_eq, not_true_eq_false, not_false_eq_true, decide_true, decide_false, decide_not, Bool.true_and, Bool.false_and, Bool.and_true, Bool.and_false, Bool.true_or, Bool.false_or, Bool.or_true, Bool.or_false, Bool.not_true, Bool.not_false, Bool.false_eq_true, bI_t, bI_f, Int.natCast_one, Int.cast_ofNat_Int, Int.natCast_zero, ju_self, ju_ne, r5', c1', q1, m1]
        rw [hH3]
      by_cases hk : kd g z l (nxt g z l p) = 1 ∧ isW g z l (nxt g z l p) wTO = false
      · -- a taken word
        rw [if_pos hk]
        have lk : colP g z l S nm tt (nxt g z l p) = .error (erx g z l (nxt g z l p) 1) := by unfold colP lookP; rw [if_pos hn]
        rw [lk, eb_er]
        exact ⟨H3, F3, by omega, by omega, Or.inr ⟨_, nxt g z l p, run, hk.1, rfl, h3, hk.2, H2.1, rfl⟩⟩
      · rw [if_neg hk]
        refine ⟨H3, F3, by omega, by omega, _, run, h3, ⟨o0, o1⟩, ⟨by show (-1 : Int) ≤ -1; omega, by show (-1 : Int) < _; omega⟩, H2.1, rfl, F2.1, fset (fun _ => 0) 0 one, ?_, fset_eq, fun z => absurd (show (0 : Int) ≤ -1 from z) (by decide)⟩
        rw [if_pos (show (-1 : Int) < 0 by decide)]
        exact z3
    | true =>
      rw [hn, bZ_t] at c1'
      have hk : kd g z l (nxt g z l p) = 1 ∧ isW g z l (nxt g z l p) wTO = false := ⟨isNm_k hn, isNm_no hn (by decide)⟩
      rw [if_pos hk]
      obtain ⟨H3, hH3⟩ : ∃ H3, H3 = jpush H2 (1000, 2, aI (fset (fun _ => 0) 0 one)) := ⟨_, rfl⟩
      have m1 : jm (jpush H2 (1000, 2, fun _ => .int (zI 0))) H2.1 = some (1000, 2, aI (fun _ => 0)) := jm_p1
      have m3 : jm H3 H2.1 = some (1000, 2, aI (fset (fun _ => 0) 0 one)) := by rw [hH3]; exact jm_p1
      have f3 : Fr H2 H3 (fun _ => False) := by rw [hH3]; exact Fr.push
      have n3 : H3.1 = H2.1 + 1 ∧ H3.2.1 = H2.2.1 + 2 := by rw [hH3]; exact ⟨rfl, rfl⟩
      have h3 : RdC (fun u => B u ∨ u = H2.1) H3 a 9 n tp q g z l x y (nxt g z l p) := h2.more f3 (fun _ _ e => e.elim) (fun e => e) (fun u hu => hu.elim Or.inl fun e => Or.inr (by omega)) fun u hu => Or.inl hu
      have S3 := S2.fr f3 fun u z => z.elim
      have F3 : Fr H H3 (fun u => u = a) := F2.tr (f3.mono fun _ _ z => z.elim)
      obtain ⟨-, -, -, mc3, -⟩ := mvR h3
      obtain ⟨H4, d1, d2, d3, d4⟩ := rc_col (d := d + 1) (but := one) h3 S3 (by omega) t0 t1 c0 (by omega) (by omega)
      rw [hold_but] at d4
      cases hr2 : colP g z l S nm tt (nxt g z l p) with
      | error er =>
        rw [hr2] at d4
        obtain ⟨u, r7, r8⟩ := d4
        have r7' := (mc3 (d + 9) _ _).trans r7
        rw [eb_er]
        refine ⟨H4, F3.tr d1, by omega, by omega, Or.inl ⟨u, ?_, r8⟩⟩
        simp (disch := first | assumption | omega | decide | exact okF_i | exact okF_r | exact okF_n | exact okF_j | rfl) only [jc_ref, rI_int, rR_ref, rR_null, rJ_long, ckR_ref, ckR_null, ckr_ref, ckr_null, ckW_int, ckW_ref, ckW_null, cI_ok, cR_ok, cR_null, cV_ok, cJ_ok, qH_eq, qD_in, aG_ref, aS_ref, aL_ref, pF_ref, cK_ref, cK_null, zI_lit, zJ_lit, zI_add, zI_sub, zI_mul, zI_neg, zI_eq, zI_lt, zI_le, Int.reduceLT, Int.reduceLE, Int.reduceAdd, Int.reduceSub, Int.reduceMul, Int.reduceNeg, Int.reduceEq, Int.reduceNe, reduceIte, jf_in, pFc_in, aGi, aGb, aSi, aLc_in, cKc_in, nA_in, jm_s1, jm_s2, jm_p1, jm_p2, jm_b, jn_b, jn_s, jn_p, jset_jset, jset_jpush2, ckR_is, ckr_is, rR_is, ckW_is, cR_is, obi2, ckW_int, eq_self, if_true, ref_null, if_false, ne_eq, not_true_eq_false, not_false_eq_true, decide_true, decide_false, decide_not, Bool.true_and, Bool.false_and, Bool.and_true, Bool.and_false, Bool.true_or, Bool.false_or, Bool.or_true, Bool.or_false, Bool.not_true, Bool.not_false, Bool.false_eq_true, bI_t, bI_f, Int.natCast_one, Int.cast_ofNat_Int, Int.natCast_zero, ju_self, ju_ne, r5', c1', q2, m1, ← hH3, r7', cI_th]
      | ok two =>
        rw [hr2, eb_ok] at d4
        rw [eb_ok]
        by_cases cc : two = one
        · rw [if_pos cc] at d4 ⊢
          obtain ⟨u, r7, r8⟩ := d4
          have r7' := (mc3 (d + 9) _ _).trans r7
          refine ⟨H4, F3.tr d1, by omega, by omega, Or.inl ⟨u, ?_, r8⟩⟩
          simp (disch := first | assumption | omega | decide | exact okF_i | exact okF_r | exact okF_n | exact okF_j | rfl) only [jc_ref, rI_int, rR_ref, rR_null, rJ_long, ckR_ref, ckR_null, ckr_ref, ckr_null, ckW_int, ckW_ref, ckW_null, cI_ok, cR_ok, cR_null, cV_ok, cJ_ok, qH_eq, qD_in, aG_ref, aS_ref, aL_ref, pF_ref, cK_ref, cK_null, zI_lit, zJ_lit, zI_add, zI_sub, zI_mul, zI_neg, zI_eq, zI_lt, zI_le, Int.reduceLT, Int.reduceLE, Int.reduceAdd, Int.reduceSub, Int.reduceMul, Int.reduceNeg, Int.reduceEq, Int.reduceNe, reduceIte, jf_in, pFc_in, aGi, aGb, aSi, aLc_in, cKc_in, nA_in, jm_s1, jm_s2, jm_p1, jm_p2, jm_b, jn_b, jn_s, jn_p, jset_jset, jset_jpush2, ckR_is, ckr_is, rR_is, ckW_is, cR_is, obi2, ckW_int, eq_self, if_true, ref_null, if_false, ne_eq, not_true_eq_false, not_false_eq_true, decide_true, decide_false, decide_not, Bool.true_and, Bool.false_and, Bool.and_true, Bool.and_false, Bool.true_or, Bool.false_or, Bool.or_true, Bool.or_false, Bool.not_true, Bool.not_false, Bool.false_eq_true, bI_t, bI_f, Int.natCast_one, Int.cast_ofNat_Int, Int.natCast_zero, ju_self, ju_ne, r5', c1', q2, m1, ← hH3, r7', cI_th]
        · rw [if_neg cc] at d4 ⊢
          obtain ⟨u, r7, rfl, h4, w0, w1, -, -⟩ := d4
          have r7' := (mc3 (d + 9) _ _).trans r7
          have e4 : jm H4 H2.1 = some (1000, 2, aI (fset (fun _ => 0) 0 one)) := (d1.2.2 _ (by omega) (by omega)).trans m3
          obtain ⟨H5, hH5⟩ : ∃ H5, H5 = jset H4 H2.1 (1000, 2, aI (fset (fset (fun _ => 0) 0 one) 1 two)) := ⟨_, rfl⟩
          have m5 : jm H5 H2.1 = some (1000, 2, aI (fset (fset (fun _ => 0) 0 one) 1 two)) := by rw [hH5]; exact jm_s1
          have f5 : Fr H4 H5 (fun u => u = H2.1) := by rw [hH5]; exact Fr.set rfl
          have n5 : H5.1 = H4.1 ∧ H5.2.1 = H4.2.1 := by rw [hH5]; exact ⟨rfl, rfl⟩
          have l4 := d1.1
          have h5 := (h4.fr f5 (fun u _ z => Or.inr z) (by omega)).less (B := B) (fun u hu => Or.inl hu) h.2.1
          have z5 : Fz B H5 H2.1 = some (1000, 2, aI (fset (fset (fun _ => 0) 0 one) 1 two)) := Fz_in (by omega) (fun hb => by have := h2.2.2.1 _ hb; omega) m5
          have F5 : Fr H H5 (fun u => u = a) := (F3.tr d1).new (f5.mono fun u _ z => Or.inr (by rw [z]; exact F2.1))
          refine ⟨H5, F5, by omega, by omega, some (.ref H2.1), ?_, h5, ⟨o0, o1⟩, ⟨by show (-1 : Int) ≤ two; omega, w1⟩, H2.1, rfl, F2.1, fset (fset (fun _ => 0) 0 one) 1 two, ?_, (fset_ne (by decide)).trans fset_eq, fun z => fset_eq⟩
          · simp (disch := first | assumption | omega | decide | exact okF_i | exact okF_r | exact okF_n | exact okF_j | rfl) only [jc_ref, rI_int, rR_ref, rR_null, rJ_long, ckR_ref, ckR_null, ckr_ref, ckr_null, ckW_int, ckW_ref, ckW_null, cI_ok, cR_ok, cR_null, cV_ok, cJ_ok, qH_eq, qD_in, aG_ref, aS_ref, aL_ref, pF_ref, cK_ref, cK_null, zI_lit, zJ_lit, zI_add, zI_sub, zI_mul, zI_neg, zI_eq, zI_lt, zI_le, Int.reduceLT, Int.reduceLE, Int.reduceAdd, Int.reduceSub, Int.reduceMul, Int.reduceNeg, Int.reduceEq, Int.reduceNe, reduceIte, jf_in, pFc_in, aGi, aGb, aSi, aLc_in, cKc_in, nA_in, jm_s1, jm_s2, jm_p1, jm_p2, jm_b, jn_b, jn_s, jn_p, jset_jset, jset_jpush2, ckR_is, ckr_is, rR_is, ckW_is, cR_is, obi2, ckW_int, eq_self, if_true, ref_null, if_false, ne_eq, not_true_eq_false, not_false_eq_true, decide_true, decide_false, decide_not, Bool.true_and, Bool.false_and, Bool.and_true, Bool.and_false, Bool.true_or, Bool.false_or, Bool.or_true, Bool.or_false, Bool.not_true, Bool.not_false, Bool.false_eq_true, bI_t, bI_f, Int.natCast_one, Int.cast_ofNat_Int, Int.natCast_zero, ju_self, ju_ne, r5', c1', q2, m1, ← hH3, r7', e4, ← hH5]
          · rw [if_neg (show ¬ two < 0 by omega)]
            exact z5
end
