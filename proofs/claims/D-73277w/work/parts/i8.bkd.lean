/-! the component's reader of books: any line -/
-- jc_ref, rI_int, rR_ref, rR_null, rJ_long, ckR_ref, ckR_null, ckr_ref, ckr_null, ckW_int, ckW_ref, ckW_null, cI_ok, cR_ok, cR_null, cV_ok, cJ_ok, qH_eq, qD_in, aG_ref, aS_ref, aL_ref, pF_ref, cK_ref, cK_null, zI_lit, zJ_lit, zI_add, zI_sub, zI_mul, zI_neg, zI_eq, zI_lt, zI_le, Int.reduceLT, Int.reduceLE, Int.reduceAdd, Int.reduceSub, Int.reduceMul, Int.reduceNeg, Int.reduceEq, Int.reduceNe, reduceIte, jf_in, pFc_in, aGi, aGb, aSi, aLc_in, cKc_in, nA_in, jm_s1, jm_s2, jm_p1, jm_p2, jm_b, jn_b, jn_s, jn_p, jset_jset, jset_jpush2, ckR_is, ckr_is, rR_is, ckW_is, cR_is, obi2, ckW_int, eq_self, if_true, ref_null, if_false, ne_eq, not_true_eq_false, not_false_eq_true, decide_true, decide_false, decide_not, Bool.true_and, Bool.false_and, Bool.and_true, Bool.and_false, Bool.true_or, Bool.false_or, Bool.or_true, Bool.or_false, Bool.not_true, Bool.not_false, Bool.false_eq_true, bI_t, bI_f, Int.natCast_one, Int.cast_ofNat_Int, Int.natCast_zero, ju_self, ju_ne = jc_ref, rI_int, rR_ref, rR_null, rJ_long, ckR_ref, ckR_null, ckr_ref, ckr_null, ckW_int, ckW_ref, ckW_null, cI_ok, cR_ok, cR_null, cV_ok, cJ_ok, qH_eq, qD_in, aG_ref, aS_ref, aL_ref, pF_ref, cK_ref, cK_null, zI_lit, zJ_lit, zI_add, zI_sub, zI_mul, zI_neg, zI_eq, zI_lt, zI_le, Int.reduceLT, Int.reduceLE, Int.reduceAdd, Int.reduceSub, Int.reduceMul, Int.reduceNeg, Int.reduceEq, Int.reduceNe, reduceIte, jf_in, pFc_in, aGi, aGb, aSi, aLc_in, cKc_in, nA_in, jm_s1, jm_s2, jm_p1, jm_p2, jm_b, jn_b, jn_s, jn_p, jset_jset, jset_jpush2, ckR_is, ckr_is, rR_is, ckW_is, cR_is, obi2, ckW_int, eq_self, if_true, ref_null, if_false, ne_eq, not_true_eq_false, not_false_eq_true, decide_true, decide_false, decide_not, Bool.true_and, Bool.false_and, Bool.and_true, Bool.and_false, Bool.true_or, Bool.false_or, Bool.or_true, Bool.or_false, Bool.not_true, Bool.not_false, Bool.false_eq_true, bI_t, bI_f, Int.natCast_one, Int.cast_ofNat_Int, Int.natCast_zero, ju_self, ju_ne
section
variable {d : Nat} {H H2 : AH} {a b q n t tp sc ql cap : Nat} {z l p nn v : Int} {f : Nat → Value} {g : Int → Int} {B C : Nat → Prop} {x y : Value} {S nm L : Int → Int} {mc : Int32} {lst : List Value}
theorem StmF.k3 {F : Nat → Option Cl} {to : Int} (h : StmF F b S L to) : L to < 3 := by
  rcases h with h | ⟨h | h, -⟩
  · rw [h.1]; decide
  · rw [h]; decide
  · rw [h]; decide
theorem rb_stm (h : RdC B H a 27 n tp sc g z l (.ref ql) y p) (hS : SchP C H sc S nm) (ca : C a) (W : ScW S) (hl : jm H ql = some (cAL cap mc lst)) (hn : (lst.length : Int) = nn) (n4 : nn ≤ 40) (hs : isW g z l p wINSERT = true ∨ isW g z l p wDELETE = true ∨ isW g z l p wSET = true) :
    CRl g z l (if nn = 40 then .error (erx g z l p 4) else stmP g z l S nm L (20 * nn) p) (G2 (d + 13) 27000 54 [.ref a, .int (zI (-1))] [.ref a] H) H (fun u => u = a) 200 1820 (BkK B a n tp sc g z l (.ref ql) y S (20 * nn) H.1) (fun q' w H2 => RdC B H2 a 27 n tp sc g z l (.ref ql) y q' ∧ ∃ b c, w = some (.ref b) ∧ jm H2 b = some c ∧ c.1 < 1000) := by
  obtain ⟨f, mm, -, -, f4, f5, -, -, -, f10, -⟩ := h.fs
  obtain ⟨-, -, mn, -, mg, -⟩ := mvB h
  have al := h.2.2.1 a h.2.1
  have nd1 := rc_need (d := d + 8) h (b := true) (k := 1) (by omega) (by omega)
  rw [if_pos rfl, bZ_t] at nd1
  have nd1' := (mn (d + 13) _ _).trans nd1
  have nd4 := fun b => rc_need (d := d + 8) h (b := b) (k := 4) (by omega) (by omega)
  have sz := h_size (d := d + 12) hl
  have e27 : ([27] : List Nat).elem 27 = true := rfl
  rw [F27000_54]
  by_cases c : nn = 40
  · rw [if_pos c]
    have n1 := nd4 false
    rw [if_neg (by decide), bZ_f] at n1
    obtain ⟨H2, r1, r2, r3, r4, r5⟩ := n1
    have r1' := (mn (d + 13) _ _).trans r1
    have le : (40 : Int) ≤ (lst.length : Int) := by omega
    refine ⟨H2, r2.mono fun _ _ u => u.elim, by omega, by omega, Or.inl ⟨H.1, ?_, r5⟩⟩
    simp (disch := first | assumption | omega | decide | exact okF_i | exact okF_r | exact okF_n | exact okF_j | rfl) only [jc_ref, rI_int, rR_ref, rR_null, rJ_long, ckR_ref, ckR_null, ckr_ref, ckr_null, ckW_int, ckW_ref, ckW_null, cI_ok, cR_ok, cR_null, cV_ok, cJ_ok, qH_eq, qD_in, aG_ref, aS_ref, aL_ref, pF_ref, cK_ref, cK_null, zI_lit, zJ_lit, zI_add, zI_sub, zI_mul, zI_neg, zI_eq, zI_lt, zI_le, Int.reduceLT, Int.reduceLE, Int.reduceAdd, Int.reduceSub, Int.reduceMul, Int.reduceNeg, Int.reduceEq, Int.reduceNe, reduceIte, jf_in, pFc_in, aGi, aGb, aSi, aLc_in, cKc_in, nA_in, jm_s1, jm_s2, jm_p1, jm_p2, jm_b, jn_b, jn_s, jn_p, jset_jset, jset_jpush2, ckR_is, ckr_is, rR_is, ckW_is, cR_is, obi2, ckW_int, eq_self, if_true, ref_null, if_false, ne_eq, not_true_eq_false, not_false_eq_true, decide_true, decide_false, decide_not, Bool.true_and, Bool.false_and, Bool.and_true, Bool.and_false, Bool.true_or, Bool.false_or, Bool.or_true, Bool.or_false, Bool.not_true, Bool.not_false, Bool.false_eq_true, bI_t, bI_f, Int.natCast_one, Int.cast_ofNat_Int, Int.natCast_zero, ju_self, ju_ne, nd1', mm, f10, sz]
    rw [if_pos le, F27000_81]
    simp (disch := first | assumption | omega | decide | exact okF_i | exact okF_r | exact okF_n | exact okF_j | rfl) only [jc_ref, rI_int, rR_ref, rR_null, rJ_long, ckR_ref, ckR_null, ckr_ref, ckr_null, ckW_int, ckW_ref, ckW_null, cI_ok, cR_ok, cR_null, cV_ok, cJ_ok, qH_eq, qD_in, aG_ref, aS_ref, aL_ref, pF_ref, cK_ref, cK_null, zI_lit, zJ_lit, zI_add, zI_sub, zI_mul, zI_neg, zI_eq, zI_lt, zI_le, Int.reduceLT, Int.reduceLE, Int.reduceAdd, Int.reduceSub, Int.reduceMul, Int.reduceNeg, Int.reduceEq, Int.reduceNe, reduceIte, jf_in, pFc_in, aGi, aGb, aSi, aLc_in, cKc_in, nA_in, jm_s1, jm_s2, jm_p1, jm_p2, jm_b, jn_b, jn_s, jn_p, jset_jset, jset_jpush2, ckR_is, ckr_is, rR_is, ckW_is, cR_is, obi2, ckW_int, eq_self, if_true, ref_null, if_false, ne_eq, not_true_eq_false, not_false_eq_true, decide_true, decide_false, decide_not, Bool.true_and, Bool.false_and, Bool.and_true, Bool.and_false, Bool.true_or, Bool.false_or, Bool.or_true, Bool.or_false, Bool.not_true, Bool.not_false, Bool.false_eq_true, bI_t, bI_f, Int.natCast_one, Int.cast_ofNat_Int, Int.natCast_zero, ju_self, ju_ne, r1', cV_th]
  rw [if_neg c]
  have n1 := nd4 true
  rw [if_pos rfl, bZ_t] at n1
  have r1' := (mn (d + 13) _ _).trans n1
  have le : ¬ (40 : Int) ≤ (lst.length : Int) := by omega
  obtain ⟨H3, hH3⟩ : ∃ H3, H3 = jpush H (28, 1, o28 .null) := ⟨_, rfl⟩
  have m3 : jm H3 H.1 = some (28, 1, o28 .null) := by rw [hH3]; exact jm_p1
  have f3 : Fr H H3 (fun _ => False) := by rw [hH3]; exact Fr.push
  have n3 : H3.1 = H.1 + 1 ∧ H3.2.1 = H.2.1 + 1 := by rw [hH3]; exact ⟨rfl, rfl⟩
  have k3 : RdC (fun u => B u ∨ u = H.1) H3 a 27 n tp sc g z l (.ref ql) y p := h.more f3 (fun _ _ e => e.elim) (fun e => e) (fun u hu => hu.elim Or.inl fun e => Or.inr (by omega)) fun u hu => Or.inl hu
  have S3 := hS.fr f3 fun _ z => z.elim
  obtain ⟨-, -, -, ms3, -⟩ := mvB k3
  have T := rc_statement (d := d + 1) (L := L) (to := 20 * nn) k3 S3 ca W hs
  have pre : ∀ X : Rz, MvH (d + 13) 9108 [.ref a] H3 = X → zcV (MvH (d + 13) 9107 [.ref a, .int 1, .int 1] H) (fun h2 => zpR (jf (jc h2 (.ref a)) [27] 10) (fun r3 => zcI (M2 (d + 13) 43017 [r3] h2) (fun x4 h5 => if 40 ≤ x4 then (G2 (d + 13) 27000 81 [.ref a, .int (zI (-1))] [.int 0, .ref a] h5) else (G2 (d + 13) 27000 81 [.ref a, .int (zI (-1))] [.int 1, .ref a] h5)) ()) ()) () = zcR X (fun r4 h5 => zcV (M2 (d + 13) 28900 [.ref H.1, r4] h5) (fun h7 => some (.inl (some (.ref H.1)), h7)) ()) () := by
    intro X hX
    rw [← hX]
    simp (disch := first | assumption | omega | decide | exact okF_i | exact okF_r | exact okF_n | exact okF_j | rfl) only [jc_ref, rI_int, rR_ref, rR_null, rJ_long, ckR_ref, ckR_null, ckr_ref, ckr_null, ckW_int, ckW_ref, ckW_null, cI_ok, cR_ok, cR_null, cV_ok, cJ_ok, qH_eq, qD_in, aG_ref, aS_ref, aL_ref, pF_ref, cK_ref, cK_null, zI_lit, zJ_lit, zI_add, zI_sub, zI_mul, zI_neg, zI_eq, zI_lt, zI_le, Int.reduceLT, Int.reduceLE, Int.reduceAdd, Int.reduceSub, Int.reduceMul, Int.reduceNeg, Int.reduceEq, Int.reduceNe, reduceIte, jf_in, pFc_in, aGi, aGb, aSi, aLc_in, cKc_in, nA_in, jm_s1, jm_s2, jm_p1, jm_p2, jm_b, jn_b, jn_s, jn_p, jset_jset, jset_jpush2, ckR_is, ckr_is, rR_is, ckW_is, cR_is, obi2, ckW_int, eq_self, if_true, ref_null, if_false, ne_eq, not_true_eq_false, not_false_eq_true, decide_true, decide_false, decide_not, Bool.true_and, Bool.false_and, Bool.and_true, Bool.and_false, Bool.true_or, Bool.false_or, Bool.or_true, Bool.or_false, Bool.not_true, Bool.not_false, Bool.false_eq_true, bI_t, bI_f, Int.natCast_one, Int.cast_ofNat_Int, Int.natCast_zero, ju_self, ju_ne, nd1', mm, f10, sz]
    rw [if_neg le, F27000_81]
    simp (disch := first | assumption | omega | decide | exact okF_i | exact okF_r | exact okF_n | exact okF_j | rfl) only [jc_ref, rI_int, rR_ref, rR_null, rJ_long, ckR_ref, ckR_null, ckr_ref, ckr_null, ckW_int, ckW_ref, ckW_null, cI_ok, cR_ok, cR_null, cV_ok, cJ_ok, qH_eq, qD_in, aG_ref, aS_ref, aL_ref, pF_ref, cK_ref, cK_null, zI_lit, zJ_lit, zI_add, zI_sub, zI_mul, zI_neg, zI_eq, zI_lt, zI_le, Int.reduceLT, Int.reduceLE, Int.reduceAdd, Int.reduceSub, Int.reduceMul, Int.reduceNeg, Int.reduceEq, Int.reduceNe, reduceIte, jf_in, pFc_in, aGi, aGb, aSi, aLc_in, cKc_in, nA_in, jm_s1, jm_s2, jm_p1, jm_p2, jm_b, jn_b, jn_s, jn_p, jset_jset, jset_jpush2, ckR_is, ckr_is, rR_is, ckW_is, cR_is, obi2, ckW_int, eq_self, if_true, ref_null, if_false, ne_eq, not_true_eq_false, not_false_eq_true, decide_true, decide_false, decide_not, Bool.true_and, Bool.false_and, Bool.and_true, Bool.and_false, Bool.true_or, Bool.false_or, Bool.or_true, Bool.or_false, Bool.not_true, Bool.not_false, Bool.false_eq_true, bI_t, bI_f, Int.natCast_one, Int.cast_ofNat_Int, Int.natCast_zero, ju_self, ju_ne, n28, o28s_0, r1', ← hH3]
  obtain ⟨H4, t1, t2, t3, t4⟩ := T
  have m4 : jm H4 H.1 = some (28, 1, o28 .null) := (t1.2.2 _ (by omega) (by omega)).trans m3
  have l4 := t1.1
  have F4 : Fr H H4 (fun u => u = a) := (f3.mono fun _ _ z => z.elim).tr t1
  have fin : ∀ (sb : Nat) (q' : Int), RdC (fun u => B u ∨ u = H.1) H4 a 27 n tp sc g z l (.ref ql) y q' → ∃ H5, zcV (M2 (d + 13) 28900 [.ref H.1, .ref sb] H4) (fun h7 => some (.inl (some (.ref H.1)), h7)) () = (some (.inl (some (.ref H.1)), H5) : Rz) ∧ Fr H4 H5 (fun u => u = H.1) ∧ H5.1 = H4.1 ∧ H5.2.1 = H4.2.1 ∧ jm H5 H.1 = some (28, 1, o28 (.ref sb)) ∧ RdC B H5 a 27 n tp sc g z l (.ref ql) y q' := by
    intro sb q' k4
    have i1 := ck_28900 (d := d + 10) (q := sb) m4
    refine ⟨jset H4 H.1 (28, 1, o28 (.ref sb)), ?_, Fr.set rfl, rfl, rfl, jm_s1, ?_⟩
    · rw [i1, cV_ok]
    · exact (k4.fr (Fr.set (P := fun u => u = H.1) rfl) (fun u _ z => Or.inr z) (by omega)).less (fun u hu => Or.inl hu) h.2.1
  cases hr : stmP g z l S nm L (20 * nn) p with
  | error er =>
    rw [hr] at t4
    rcases t4 with ⟨u, r5, r6⟩ | ⟨w, q', r5, r6, r7, k4, sb, rfl⟩
    · have r5' := (ms3 (d + 13)).trans r5
      refine ⟨H4, F4, by omega, by omega, Or.inl ⟨u, ?_, r6⟩⟩
      exact (pre _ r5').trans cR_th
    · have r5' := (ms3 (d + 13)).trans r5
      obtain ⟨H5, j1, j2, j3, j4, j5, j6⟩ := fin sb q' k4
      refine ⟨H5, F4.new (j2.mono fun u _ z => Or.inr (by omega)), by omega, by omega, Or.inr ⟨_, q', ?_, r6, r7, j6, H.1, _, rfl, j5, by show 28 < 1000; omega⟩⟩
      rw [pre _ r5', cR_ok, j1]
  | ok vv =>
    rw [hr] at t4
    obtain ⟨w, r5, k4, sb, rfl, lo, st⟩ := t4
    have r5' := (ms3 (d + 13)).trans r5
    obtain ⟨H5, j1, j2, j3, j4, j5, j6⟩ := fin sb vv.2 k4
    refine ⟨H5, F4.new (j2.mono fun u _ z => Or.inr (by omega)), by omega, by omega, _, ?_, j6, H.1, rfl, Nat.le_refl _, Or.inr ⟨st.k3, sb, Fz_in (by omega) (fun hb => by have := h.2.2.1 _ hb; omega) j5, st.sub ((Fz_sub j2 fun u _ z => Or.inr z).tr (sub_less fun u hu => Or.inl hu))⟩⟩
    rw [pre _ r5', cR_ok, j1]
end
