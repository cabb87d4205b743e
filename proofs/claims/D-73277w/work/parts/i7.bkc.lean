/-! the component's reader of books: a line, read -/
-- jc_ref, rI_int, rR_ref, rR_null, rJ_long, ckR_ref, ckR_null, ckr_ref, ckr_null, ckW_int, ckW_ref, ckW_null, cI_ok, cR_ok, cR_null, cV_ok, cJ_ok, qH_eq, qD_in, aG_ref, aS_ref, aL_ref, pF_ref, cK_ref, cK_null, zI_lit, zJ_lit, zI_add, zI_sub, zI_mul, zI_neg, zI_eq, zI_lt, zI_le, Int.reduceLT, Int.reduceLE, Int.reduceAdd, Int.reduceSub, Int.reduceMul, Int.reduceNeg, Int.reduceEq, Int.reduceNe, reduceIte, jf_in, pFc_in, aGi, aGb, aSi, aLc_in, cKc_in, nA_in, jm_s1, jm_s2, jm_p1, jm_p2, jm_b, jn_b, jn_s, jn_p, jset_jset, jset_jpush2, ckR_is, ckr_is, rR_is, ckW_is, cR_is, obi2, ckW_int, eq_self, if_true, ref_null, if_false, ne_eq, not_true_eq_false, not_false_eq_true, decide_true, decide_false, decide_not, Bool.true_and, Bool.false_and, Bool.and_true, Bool.and_false, Bool.true_or, Bool.false_or, Bool.or_true, Bool.or_false, Bool.not_true, Bool.not_false, Bool.false_eq_true, bI_t, bI_f, Int.natCast_one, Int.cast_ofNat_Int, Int.natCast_zero, ju_self, ju_ne = jc_ref, rI_int, rR_ref, rR_null, rJ_long, ckR_ref, ckR_null, ckr_ref, ckr_null, ckW_int, ckW_ref, ckW_null, cI_ok, cR_ok, cR_null, cV_ok, cJ_ok, qH_eq, qD_in, aG_ref, aS_ref, aL_ref, pF_ref, cK_ref, cK_null, zI_lit, zJ_lit, zI_add, zI_sub, zI_mul, zI_neg, zI_eq, zI_lt, zI_le, Int.reduceLT, Int.reduceLE, Int.reduceAdd, Int.reduceSub, Int.reduceMul, Int.reduceNeg, Int.reduceEq, Int.reduceNe, reduceIte, jf_in, pFc_in, aGi, aGb, aSi, aLc_in, cKc_in, nA_in, jm_s1, jm_s2, jm_p1, jm_p2, jm_b, jn_b, jn_s, jn_p, jset_jset, jset_jpush2, ckR_is, ckr_is, rR_is, ckW_is, cR_is, obi2, ckW_int, eq_self, if_true, ref_null, if_false, ne_eq, not_true_eq_false, not_false_eq_true, decide_true, decide_false, decide_not, Bool.true_and, Bool.false_and, Bool.and_true, Bool.and_false, Bool.true_or, Bool.false_or, Bool.or_true, Bool.or_false, Bool.not_true, Bool.not_false, Bool.false_eq_true, bI_t, bI_f, Int.natCast_one, Int.cast_ofNat_Int, Int.natCast_zero, ju_self, ju_ne
section
variable {d : Nat} {H H2 : AH} {a b q n t tp sc ql cap : Nat} {z l p nn v : Int} {f : Nat → Value} {g : Int → Int} {B C : Nat → Prop} {x y : Value} {S nm L : Int → Int} {mc : Int32} {lst : List Value}
/-- what a line of a book leaves -/
def BkK (B : Nat → Prop) (a n tp sc : Nat) (g : Int → Int) (z l : Int) (x y : Value) (S : Int → Int) (to : Int) (lo : Nat) : LQ → Option Value → AH → Prop := fun v w H2 => RdC B H2 a 27 n tp sc g z l x y v.2 ∧ ∃ b, w = some (.ref b) ∧ lo ≤ b ∧ DeedF (Fz B H2) b S v.1 to
theorem rb_mark (h : RdC B H a 27 n tp sc g z l (.ref ql) y p) (hl : jm H ql = some (cAL cap mc lst)) (hn : (lst.length : Int) = nn) (n4 : nn ≤ 40) (v0 : 0 ≤ v) (v2 : v ≤ 2) :
    CR (if nn = 40 then .error (erx g z l p 4) else .ok (fset L (20 * nn) (v + 3), nxt g z l p)) (G2 (d + 13) 27000 54 [.ref a, .int (zI v)] [.ref a] H) H (fun u => u = a) 5 40 (BkK B a n tp sc g z l (.ref ql) y S (20 * nn) H.1) := by
  obtain ⟨f, mm, -, -, f4, f5, -, -, -, f10, -⟩ := h.fs
  obtain ⟨-, -, mn, -, mg, -⟩ := mvB h
  have al := h.2.2.1 a h.2.1
  have nd1 := rc_need (d := d + 8) h (b := true) (k := 1) (by omega) (by omega)
  rw [if_pos rfl, bZ_t] at nd1
  have nd1' := (mn (d + 13) _ _).trans nd1
  have nd4 := fun b => rc_need (d := d + 8) h (b := b) (k := 4) (by omega) (by omega)
  have sz := h_size (d := d + 12) hl
  have e27 : ([27] : List Nat).elem 27 = true := rfl
  rw [F27000_54]
  by_cases c : nn = 40
  · rw [if_pos c]
    have n1 := nd4 false
    rw [if_neg (by decide), bZ_f] at n1
    obtain ⟨H2, r1, r2, r3, r4, r5⟩ := n1
    have r1' := (mn (d + 13) _ _).trans r1
    have le : (40 : Int) ≤ (lst.length : Int) := by omega
    refine ⟨H2, r2.mono fun _ _ u => u.elim, by omega, by omega, H.1, ?_, r5⟩
    simp (disch := first | assumption | omega | decide | exact okF_i | exact okF_r | exact okF_n | exact okF_j | rfl) only [jc_ref, rI_int, rR_ref, rR_null, rJ_long, ckR_ref, ckR_null, ckr_ref, ckr_null, ckW_int, ckW_ref, ckW_null, cI_ok, cR_ok, cR_null, cV_ok, cJ_ok, qH_eq, qD_in, aG_ref, aS_ref, aL_ref, pF_ref, cK_ref, cK_null, zI_lit, zJ_lit, zI_add, zI_sub, zI_mul, zI_neg, zI_eq, zI_lt, zI_le, Int.reduceLT, Int.reduceLE, Int.reduceAdd, Int.reduceSub, Int.reduceMul, Int.reduceNeg, Int.reduceEq, Int.reduceNe, reduceIte, jf_in, pFc_in, aGi, aGb, aSi, aLc_in, cKc_in, nA_in, jm_s1, jm_s2, jm_p1, jm_p2, jm_b, jn_b, jn_s, jn_p, jset_jset, jset_jpush2, ckR_is, ckr_is, rR_is, ckW_is, cR_is, obi2, ckW_int, eq_self, if_true, ref_null, if_false, ne_eq, not_true_eq_false, not_false_eq_true, decide_true, decide_false, decide_not, Bool.true_and, Bool.false_and, Bool.and_true, Bool.and_false, Bool.true_or, Bool.false_or, Bool.or_true, Bool.or_false, Bool.not_true, Bool.not_false, Bool.false_eq_true, bI_t, bI_f, Int.natCast_one, Int.cast_ofNat_Int, Int.natCast_zero, ju_self, ju_ne, nd1', mm, f10, sz]
    rw [if_pos le, F27000_81]
    simp (disch := first | assumption | omega | decide | exact okF_i | exact okF_r | exact okF_n | exact okF_j | rfl) only [jc_ref, rI_int, rR_ref, rR_null, rJ_long, ckR_ref, ckR_null, ckr_ref, ckr_null, ckW_int, ckW_ref, ckW_null, cI_ok, cR_ok, cR_null, cV_ok, cJ_ok, qH_eq, qD_in, aG_ref, aS_ref, aL_ref, pF_ref, cK_ref, cK_null, zI_lit, zJ_lit, zI_add, zI_sub, zI_mul, zI_neg, zI_eq, zI_lt, zI_le, Int.reduceLT, Int.reduceLE, Int.reduceAdd, Int.reduceSub, Int.reduceMul, Int.reduceNeg, Int.reduceEq, Int.reduceNe, reduceIte, jf_in, pFc_in, aGi, aGb, aSi, aLc_in, cKc_in, nA_in, jm_s1, jm_s2, jm_p1, jm_p2, jm_b, jn_b, jn_s, jn_p, jset_jset, jset_jpush2, ckR_is, ckr_is, rR_is, ckW_is, cR_is, obi2, ckW_int, eq_self, if_true, ref_null, if_false, ne_eq, not_true_eq_false, not_false_eq_true, decide_true, decide_false, decide_not, Bool.true_and, Bool.false_and, Bool.and_true, Bool.and_false, Bool.true_or, Bool.false_or, Bool.or_true, Bool.or_false, Bool.not_true, Bool.not_false, Bool.false_eq_true, bI_t, bI_f, Int.natCast_one, Int.cast_ofNat_Int, Int.natCast_zero, ju_self, ju_ne, r1', cV_th]
  · rw [if_neg c]
    have n1 := nd4 true
    rw [if_pos rfl, bZ_t] at n1
    have r1' := (mn (d + 13) _ _).trans n1
    have le : ¬ (40 : Int) ≤ (lst.length : Int) := by omega
    obtain ⟨H2, g1, g2, g3, g4, k2⟩ := rc_go (d := d + 11) h
    have g1' := (mg (d + 13)).trans g1
    obtain ⟨H3, hH3⟩ : ∃ H3, H3 = jpush H2 (26, 1, o26 0) := ⟨_, rfl⟩
    have m3 : jm H3 H2.1 = some (26, 1, o26 0) := by rw [hH3]; exact jm_p1
    have i1 := ck_26900 (d := d + 10) (v := v) m3
    obtain ⟨H4, hH4⟩ : ∃ H4, H4 = jset H3 H2.1 (26, 1, o26 v) := ⟨_, rfl⟩
    rw [← hH4] at i1
    have m4 : jm H4 H2.1 = some (26, 1, o26 v) := by rw [hH4]; exact jm_s1
    have f4' : Fr H2 H4 (fun _ => False) := by rw [hH4, hH3]; exact Fr.new (P := fun _ => False) Fr.rf (Fr.push.tr (Fr.set (Or.inr (Nat.le_refl _))))
    have n4' : H4.1 = H2.1 + 1 ∧ H4.2.1 = H2.2.1 + 1 := by rw [hH4, hH3]; exact ⟨rfl, rfl⟩
    have nv : ¬ v = -1 := by omega
    refine ⟨H4, g2.tr (f4'.mono fun _ _ z => z.elim), by omega, by omega, _, ?_, k2.no f4', H2.1, rfl, g2.1, Or.inl ⟨?_, ?_⟩⟩
    · simp (disch := first | assumption | omega | decide | exact okF_i | exact okF_r | exact okF_n | exact okF_j | rfl) only [jc_ref, rI_int, rR_ref, rR_null, rJ_long, ckR_ref, ckR_null, ckr_ref, ckr_null, ckW_int, ckW_ref, ckW_null, cI_ok, cR_ok, cR_null, cV_ok, cJ_ok, qH_eq, qD_in, aG_ref, aS_ref, aL_ref, pF_ref, cK_ref, cK_null, zI_lit, zJ_lit, zI_add, zI_sub, zI_mul, zI_neg, zI_eq, zI_lt, zI_le, Int.reduceLT, Int.reduceLE, Int.reduceAdd, Int.reduceSub, Int.reduceMul, Int.reduceNeg, Int.reduceEq, Int.reduceNe, reduceIte, jf_in, pFc_in, aGi, aGb, aSi, aLc_in, cKc_in, nA_in, jm_s1, jm_s2, jm_p1, jm_p2, jm_b, jn_b, jn_s, jn_p, jset_jset, jset_jpush2, ckR_is, ckr_is, rR_is, ckW_is, cR_is, obi2, ckW_int, eq_self, if_true, ref_null, if_false, ne_eq, not_true_eq_false, not_false_eq_true, decide_true, decide_false, decide_not, Bool.true_and, Bool.false_and, Bool.and_true, Bool.and_false, Bool.true_or, Bool.false_or, Bool.or_true, Bool.or_false, Bool.not_true, Bool.not_false, Bool.false_eq_true, bI_t, bI_f, Int.natCast_one, Int.cast_ofNat_Int, Int.natCast_zero, ju_self, ju_ne, nd1', mm, f10, sz]
      rw [if_neg le, F27000_81]
      simp (disch := first | assumption | omega | decide | exact okF_i | exact okF_r | exact okF_n | exact okF_j | rfl) only [jc_ref, rI_int, rR_ref, rR_null, rJ_long, ckR_ref, ckR_null, ckr_ref, ckr_null, ckW_int, ckW_ref, ckW_null, cI_ok, cR_ok, cR_null, cV_ok, cJ_ok, qH_eq, qD_in, aG_ref, aS_ref, aL_ref, pF_ref, cK_ref, cK_null, zI_lit, zJ_lit, zI_add, zI_sub, zI_mul, zI_neg, zI_eq, zI_lt, zI_le, Int.reduceLT, Int.reduceLE, Int.reduceAdd, Int.reduceSub, Int.reduceMul, Int.reduceNeg, Int.reduceEq, Int.reduceNe, reduceIte, jf_in, pFc_in, aGi, aGb, aSi, aLc_in, cKc_in, nA_in, jm_s1, jm_s2, jm_p1, jm_p2, jm_b, jn_b, jn_s, jn_p, jset_jset, jset_jpush2, ckR_is, ckr_is, rR_is, ckW_is, cR_is, obi2, ckW_int, eq_self, if_true, ref_null, if_false, ne_eq, not_true_eq_false, not_false_eq_true, decide_true, decide_false, decide_not, Bool.true_and, Bool.false_and, Bool.and_true, Bool.and_false, Bool.true_or, Bool.false_or, Bool.or_true, Bool.or_false, Bool.not_true, Bool.not_false, Bool.false_eq_true, bI_t, bI_f, Int.natCast_one, Int.cast_ofNat_Int, Int.natCast_zero, ju_self, ju_ne, n26, o26s_0, r1', nv, g1', ← hH3, i1]
    · show 3 ≤ fset L (20 * nn) (v + 3) (20 * nn)
      rw [fset_eq]; omega
    · show _ = some (26, 1, o26 (fset L (20 * nn) (v + 3) (20 * nn) - 3))
      rw [fset_eq, show v + 3 - 3 = v by omega]
      exact Fz_in (by omega) (fun hb => by have := k2.2.2.1 _ hb; omega) m4
end
