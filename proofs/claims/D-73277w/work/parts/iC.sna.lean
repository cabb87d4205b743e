/-! sentences as objects; their making -/
-- jc_ref, rI_int, rR_ref, rR_null, rJ_long, ckR_ref, ckR_null, ckr_ref, ckr_null, ckW_int, ckW_ref, ckW_null, cI_ok, cR_ok, cR_null, cV_ok, cJ_ok, qH_eq, qD_in, aG_ref, aS_ref, aL_ref, pF_ref, cK_ref, cK_null, zI_lit, zJ_lit, zI_add, zI_sub, zI_mul, zI_neg, zI_eq, zI_lt, zI_le, Int.reduceLT, Int.reduceLE, Int.reduceAdd, Int.reduceSub, Int.reduceMul, Int.reduceNeg, Int.reduceEq, Int.reduceNe, reduceIte, jf_in, pFc_in, aGi, aGb, aSi, aLc_in, cKc_in, nA_in, jm_s1, jm_s2, jm_p1, jm_p2, jm_b, jn_b, jn_s, jn_p, jset_jset, jset_jpush2, ckR_is, ckr_is, rR_is, ckW_is, cR_is, obi2, ckW_int, eq_self, if_true, ref_null, if_false, ne_eq, not_true_eq_false, not_false_eq_true, decide_true, decide_false, decide_not, Bool.true_and, Bool.false_and, Bool.and_true, Bool.and_false, Bool.true_or, Bool.false_or, Bool.or_true, Bool.or_false, Bool.not_true, Bool.not_false, Bool.false_eq_true, bI_t, bI_f, Int.natCast_one, Int.cast_ofNat_Int, Int.natCast_zero, ju_self, ju_ne = jc_ref, rI_int, rR_ref, rR_null, rJ_long, ckR_ref, ckR_null, ckr_ref, ckr_null, ckW_int, ckW_ref, ckW_null, cI_ok, cR_ok, cR_null, cV_ok, cJ_ok, qH_eq, qD_in, aG_ref, aS_ref, aL_ref, pF_ref, cK_ref, cK_null, zI_lit, zJ_lit, zI_add, zI_sub, zI_mul, zI_neg, zI_eq, zI_lt, zI_le, Int.reduceLT, Int.reduceLE, Int.reduceAdd, Int.reduceSub, Int.reduceMul, Int.reduceNeg, Int.reduceEq, Int.reduceNe, reduceIte, jf_in, pFc_in, aGi, aGb, aSi, aLc_in, cKc_in, nA_in, jm_s1, jm_s2, jm_p1, jm_p2, jm_b, jn_b, jn_s, jn_p, jset_jset, jset_jpush2, ckR_is, ckr_is, rR_is, ckW_is, cR_is, obi2, ckW_int, eq_self, if_true, ref_null, if_false, ne_eq, not_true_eq_false, not_false_eq_true, decide_true, decide_false, decide_not, Bool.true_and, Bool.false_and, Bool.and_true, Bool.and_false, Bool.true_or, Bool.false_or, Bool.or_true, Bool.or_false, Bool.not_true, Bool.not_false, Bool.false_eq_true, bI_t, bI_f, Int.natCast_one, Int.cast_ofNat_Int, Int.natCast_zero, ju_self, ju_ne
/-- what is said of a row by itself: an object as the twin's code tells it -/
def LfO (F : Nat → Option Cl) (S nm : Int → Int) (b : Nat) (c : Cd) : Prop :=
  ((c.1 = 0 ∨ c.1 = 1 ∨ c.1 = 2) ∧ F b = some (32, 1, o32 c.1)) ∨ (c.1 = 3 ∧ F b = some (33, 1, o33 c.2.2)) ∨
  ∃ (s : Nat) (bs : List Int), F b = some (34, 3, o34 (.ref s) c.2.1 c.2.2) ∧ StrF F s bs ∧ NmB bs ∧ ((c.1 = 4 ∧ pk bs = wROW) ∨ (pk bs ≠ wROW ∧ c.1 = 100 + pkZ S nm (pk bs)))
/-- a sentence's object as the twin's codes tell it; n: as deep at most -/
def CondF (F : Nat → Option Cl) (S nm : Int → Int) : Nat → Nat → List Cd → Prop
  | 0, _, _ => False
  | n + 1, b, x => (∃ c, x = [c] ∧ LfO F S nm b c) ∨ (∃ b1 x1, F b = some (31, 1, o31 (.ref b1)) ∧ x = x1 ++ [(20, 0, 0)] ∧ CondF F S nm n b1 x1) ∨
    ∃ b1 b2 x1 x2 v, F b = some (35, 3, o35 (.ref b1) (.ref b2) (22 - v)) ∧ (v = 21 ∨ v = 22) ∧ x = x1 ++ x2 ++ [(v, 0, 0)] ∧ CondF F S nm n b1 x1 ∧ CondF F S nm n b2 x2
section
variable {F G : Nat → Option Cl} {S S' nm nm' : Int → Int} {b : Nat} {c : Cd}
theorem LfO.sub (h : LfO F S nm b c) (s : Sub F G) : LfO G S nm b c := by
  rcases h with ⟨h1, h2⟩ | ⟨h1, h2⟩ | ⟨u, bs, h1, h2, h3, h4⟩
  · exact Or.inl ⟨h1, s _ _ h2⟩
  · exact Or.inr (Or.inl ⟨h1, s _ _ h2⟩)
  · exact Or.inr (Or.inr ⟨u, bs, s _ _ h1, h2.sub s, h3, h4⟩)
theorem CondF.sub (s : Sub F G) : ∀ (n : Nat) {b : Nat} {x : List Cd}, CondF F S nm n b x → CondF G S nm n b x := by
  intro n
  induction n with
  | zero => intro b x h; exact h.elim
  | succ n ih =>
    intro b x h
    rcases h with ⟨c, h1, h2⟩ | ⟨b1, x1, h1, h2, h3⟩ | ⟨b1, b2, x1, x2, v, h1, h2, h3, h4, h5⟩
    · exact Or.inl ⟨c, h1, h2.sub s⟩
    · exact Or.inr (Or.inl ⟨b1, x1, s _ _ h1, h2, ih h3⟩)
    · exact Or.inr (Or.inr ⟨b1, b2, x1, x2, v, s _ _ h1, h2, h3, ih h4, ih h5⟩)
theorem CondF.up : ∀ (n m : Nat) {b : Nat} {x : List Cd}, n ≤ m → CondF F S nm n b x → CondF F S nm m b x := by
  intro n
  induction n with
  | zero => intro m b x hm h; exact h.elim
  | succ n ih =>
    intro m b x hm h
    obtain ⟨m, rfl⟩ : ∃ k, m = k + 1 := ⟨m - 1, by omega⟩
    rcases h with ⟨c, h1, h2⟩ | ⟨b1, x1, h1, h2, h3⟩ | ⟨b1, b2, x1, x2, v, h1, h2, h3, h4, h5⟩
    · exact Or.inl ⟨c, h1, h2⟩
    · exact Or.inr (Or.inl ⟨b1, x1, h1, h2, ih m (by omega) h3⟩)
    · exact Or.inr (Or.inr ⟨b1, b2, x1, x2, v, h1, h2, h3, ih m (by omega) h4, ih m (by omega) h5⟩)
theorem pkZ_cg {w : Int} (W : ScW S) (e : ∀ i, 0 ≤ i → i < 8 → S' i = S i) : pkZ S' nm w = pkZ S nm w := by
  have key : ∀ (j : Nat) (t : Int), 0 ≤ t → t + j ≤ 4 → pkR S' nm w j t = pkR S nm w j t := by
    intro j
    induction j with
    | zero => intro t _ _; rfl
    | succ j ih =>
      intro t t0 t4
      show (skZ S' nm w t + 1) * p8 t + pkR S' nm w j (t + 1) = (skZ S nm w t + 1) * p8 t + pkR S nm w j (t + 1)
      rw [ih (t + 1) (by omega) (by omega)]
      unfold skZ
      rw [e (4 + t) (by omega) (by omega)]
  unfold pkZ
  have := W.1
  rw [e 0 (by omega) (by omega)]
  exact key _ 0 (by omega) (by omega)
theorem LfO.cg (W : ScW S) (h : LfO F S nm b c) (e : ∀ i, 0 ≤ i → i < 8 → S' i = S i) : LfO F S' nm b c := by
  rcases h with h | h | ⟨u, bs, h1, h2, h3, h4⟩
  · exact Or.inl h
  · exact Or.inr (Or.inl h)
  · exact Or.inr (Or.inr ⟨u, bs, h1, h2, h3, by rw [pkZ_cg W e]; exact h4⟩)
theorem CondF.cg (W : ScW S) (e : ∀ i, 0 ≤ i → i < 8 → S' i = S i) : ∀ (n : Nat) {b : Nat} {x : List Cd}, CondF F S nm n b x → CondF F S' nm n b x := by
  intro n
  induction n with
  | zero => intro b x h; exact h.elim
  | succ n ih =>
    intro b x h
    rcases h with ⟨c, h1, h2⟩ | ⟨b1, x1, h1, h2, h3⟩ | ⟨b1, b2, x1, x2, v, h1, h2, h3, h4, h5⟩
    · exact Or.inl ⟨c, h1, h2.cg W e⟩
    · exact Or.inr (Or.inl ⟨b1, x1, h1, h2, ih h3⟩)
    · exact Or.inr (Or.inr ⟨b1, b2, x1, x2, v, h1, h2, h3, ih h4, ih h5⟩)
end
section
variable {d : Nat} {H H2 : AH} {a b q n t tp sc e1 e2 : Nat} {z l p v : Int} {f : Nat → Value} {g : Int → Int} {B C : Nat → Prop} {x y : Value} {S nm : Int → Int}
theorem ck_30900 {m : Nat} (hm : jm H b = some (t, m, f)) (ht : t = 31 ∨ t = 32 ∨ t = 33 ∨ t = 34 ∨ t = 35) : M2 (d + 2) 30900 [.ref b] H = some (.inl none, H) := by
  have rv : (jtRecv 30900).elem t = true := by rcases ht with e | e | e | e | e <;> subst e <;> rfl
  rw [Y30900 H (jrecv_in hm rv), F30900_0]
  simp (disch := first | assumption | omega | decide | exact okF_i | exact okF_r | exact okF_n | exact okF_j | rfl) only [jc_ref, rI_int, rR_ref, rR_null, rJ_long, ckR_ref, ckR_null, ckr_ref, ckr_null, ckW_int, ckW_ref, ckW_null, cI_ok, cR_ok, cR_null, cV_ok, cJ_ok, qH_eq, qD_in, aG_ref, aS_ref, aL_ref, pF_ref, cK_ref, cK_null, zI_lit, zJ_lit, zI_add, zI_sub, zI_mul, zI_neg, zI_eq, zI_lt, zI_le, Int.reduceLT, Int.reduceLE, Int.reduceAdd, Int.reduceSub, Int.reduceMul, Int.reduceNeg, Int.reduceEq, Int.reduceNe, reduceIte, jf_in, pFc_in, aGi, aGb, aSi, aLc_in, cKc_in, nA_in, jm_s1, jm_s2, jm_p1, jm_p2, jm_b, jn_b, jn_s, jn_p, jset_jset, jset_jpush2, ckR_is, ckr_is, rR_is, ckW_is, cR_is, obi2, ckW_int, eq_self, if_true, ref_null, if_false, ne_eq, not_true_eq_false, not_false_eq_true, decide_true, decide_false, decide_not, Bool.true_and, Bool.false_and, Bool.and_true, Bool.and_false, Bool.true_or, Bool.false_or, Bool.or_true, Bool.or_false, Bool.not_true, Bool.not_false, Bool.false_eq_true, bI_t, bI_f, Int.natCast_one, Int.cast_ofNat_Int, Int.natCast_zero, ju_self, ju_ne]
theorem ck_31900 (hm : jm H b = some (31, 1, o31 .null)) : M2 (d + 3) 31900 [.ref b, .ref e1] H = some (.inl none, jset H b (31, 1, o31 (.ref e1))) := by
  have rv : (jtRecv 31900).elem 31 = true := rfl
  have i1 := ck_30900 (d := d) hm (by omega)
  rw [Y31900 H rfl (jrecv_in hm rv), F31900_0]
  simp (disch := first | assumption | omega | decide | exact okF_i | exact okF_r | exact okF_n | exact okF_j | rfl) only [jc_ref, rI_int, rR_ref, rR_null, rJ_long, ckR_ref, ckR_null, ckr_ref, ckr_null, ckW_int, ckW_ref, ckW_null, cI_ok, cR_ok, cR_null, cV_ok, cJ_ok, qH_eq, qD_in, aG_ref, aS_ref, aL_ref, pF_ref, cK_ref, cK_null, zI_lit, zJ_lit, zI_add, zI_sub, zI_mul, zI_neg, zI_eq, zI_lt, zI_le, Int.reduceLT, Int.reduceLE, Int.reduceAdd, Int.reduceSub, Int.reduceMul, Int.reduceNeg, Int.reduceEq, Int.reduceNe, reduceIte, jf_in, pFc_in, aGi, aGb, aSi, aLc_in, cKc_in, nA_in, jm_s1, jm_s2, jm_p1, jm_p2, jm_b, jn_b, jn_s, jn_p, jset_jset, jset_jpush2, ckR_is, ckr_is, rR_is, ckW_is, cR_is, obi2, ckW_int, eq_self, if_true, ref_null, if_false, ne_eq, not_true_eq_false, not_false_eq_true, decide_true, decide_false, decide_not, Bool.true_and, Bool.false_and, Bool.and_true, Bool.and_false, Bool.true_or, Bool.false_or, Bool.or_true, Bool.or_false, Bool.not_true, Bool.not_false, Bool.false_eq_true, bI_t, bI_f, Int.natCast_one, Int.cast_ofNat_Int, Int.natCast_zero, ju_self, ju_ne, o31s_0, i1, hm]
theorem ck_32900 (hm : jm H b = some (32, 1, o32 0)) : M2 (d + 3) 32900 [.ref b, .int (zI v)] H = some (.inl none, jset H b (32, 1, o32 v)) := by
  have rv : (jtRecv 32900).elem 32 = true := rfl
  have i1 := ck_30900 (d := d) hm (by omega)
  rw [Y32900 H (jrecv_in hm rv), F32900_0]
  simp (disch := first | assumption | omega | decide | exact okF_i | exact okF_r | exact okF_n | exact okF_j | rfl) only [jc_ref, rI_int, rR_ref, rR_null, rJ_long, ckR_ref, ckR_null, ckr_ref, ckr_null, ckW_int, ckW_ref, ckW_null, cI_ok, cR_ok, cR_null, cV_ok, cJ_ok, qH_eq, qD_in, aG_ref, aS_ref, aL_ref, pF_ref, cK_ref, cK_null, zI_lit, zJ_lit, zI_add, zI_sub, zI_mul, zI_neg, zI_eq, zI_lt, zI_le, Int.reduceLT, Int.reduceLE, Int.reduceAdd, Int.reduceSub, Int.reduceMul, Int.reduceNeg, Int.reduceEq, Int.reduceNe, reduceIte, jf_in, pFc_in, aGi, aGb, aSi, aLc_in, cKc_in, nA_in, jm_s1, jm_s2, jm_p1, jm_p2, jm_b, jn_b, jn_s, jn_p, jset_jset, jset_jpush2, ckR_is, ckr_is, rR_is, ckW_is, cR_is, obi2, ckW_int, eq_self, if_true, ref_null, if_false, ne_eq, not_true_eq_false, not_false_eq_true, decide_true, decide_false, decide_not, Bool.true_and, Bool.false_and, Bool.and_true, Bool.and_false, Bool.true_or, Bool.false_or, Bool.or_true, Bool.or_false, Bool.not_true, Bool.not_false, Bool.false_eq_true, bI_t, bI_f, Int.natCast_one, Int.cast_ofNat_Int, Int.natCast_zero, ju_self, ju_ne, o32s_0, i1, hm]
theorem ck_33900 (hm : jm H b = some (33, 1, o33 0)) : M2 (d + 3) 33900 [.ref b, .int (zI v)] H = some (.inl none, jset H b (33, 1, o33 v)) := by
  have rv : (jtRecv 33900).elem 33 = true := rfl
  have i1 := ck_30900 (d := d) hm (by omega)
  rw [Y33900 H (jrecv_in hm rv), F33900_0]
  simp (disch := first | assumption | omega | decide | exact okF_i | exact okF_r | exact okF_n | exact okF_j | rfl) only [jc_ref, rI_int, rR_ref, rR_null, rJ_long, ckR_ref, ckR_null, ckr_ref, ckr_null, ckW_int, ckW_ref, ckW_null, cI_ok, cR_ok, cR_null, cV_ok, cJ_ok, qH_eq, qD_in, aG_ref, aS_ref, aL_ref, pF_ref, cK_ref, cK_null, zI_lit, zJ_lit, zI_add, zI_sub, zI_mul, zI_neg, zI_eq, zI_lt, zI_le, Int.reduceLT, Int.reduceLE, Int.reduceAdd, Int.reduceSub, Int.reduceMul, Int.reduceNeg, Int.reduceEq, Int.reduceNe, reduceIte, jf_in, pFc_in, aGi, aGb, aSi, aLc_in, cKc_in, nA_in, jm_s1, jm_s2, jm_p1, jm_p2, jm_b, jn_b, jn_s, jn_p, jset_jset, jset_jpush2, ckR_is, ckr_is, rR_is, ckW_is, cR_is, obi2, ckW_int, eq_self, if_true, ref_null, if_false, ne_eq, not_true_eq_false, not_false_eq_true, decide_true, decide_false, decide_not, Bool.true_and, Bool.false_and, Bool.and_true, Bool.and_false, Bool.true_or, Bool.false_or, Bool.or_true, Bool.or_false, Bool.not_true, Bool.not_false, Bool.false_eq_true, bI_t, bI_f, Int.natCast_one, Int.cast_ofNat_Int, Int.natCast_zero, ju_self, ju_ne, o33s_0, i1, hm]
theorem ck_34900 {v2 : Int} (hm : jm H b = some (34, 3, o34 .null 0 0)) : M2 (d + 3) 34900 [.ref b, .ref e1, .int (zI v), .int (zI v2)] H = some (.inl none, jset H b (34, 3, o34 (.ref e1) v v2)) := by
  have rv : (jtRecv 34900).elem 34 = true := rfl
  have i1 := ck_30900 (d := d) hm (by omega)
  rw [Y34900 H rfl (jrecv_in hm rv), F34900_0]
  simp (disch := first | assumption | omega | decide | exact okF_i | exact okF_r | exact okF_n | exact okF_j | rfl) only [jc_ref, rI_int, rR_ref, rR_null, rJ_long, ckR_ref, ckR_null, ckr_ref, ckr_null, ckW_int, ckW_ref, ckW_null, cI_ok, cR_ok, cR_null, cV_ok, cJ_ok, qH_eq, qD_in, aG_ref, aS_ref, aL_ref, pF_ref, cK_ref, cK_null, zI_lit, zJ_lit, zI_add, zI_sub, zI_mul, zI_neg, zI_eq, zI_lt, zI_le, Int.reduceLT, Int.reduceLE, Int.reduceAdd, Int.reduceSub, Int.reduceMul, Int.reduceNeg, Int.reduceEq, Int.reduceNe, reduceIte, jf_in, pFc_in, aGi, aGb, aSi, aLc_in, cKc_in, nA_in, jm_s1, jm_s2, jm_p1, jm_p2, jm_b, jn_b, jn_s, jn_p, jset_jset, jset_jpush2, ckR_is, ckr_is, rR_is, ckW_is, cR_is, obi2, ckW_int, eq_self, if_true, ref_null, if_false, ne_eq, not_true_eq_false, not_false_eq_true, decide_true, decide_false, decide_not, Bool.true_and, Bool.false_and, Bool.and_true, Bool.and_false, Bool.true_or, Bool.false_or, Bool.or_true, Bool.or_false, Bool.not_true, Bool.not_false, Bool.false_eq_true, bI_t, bI_f, Int.natCast_one, Int.cast_ofNat_Int, Int.natCast_zero, ju_self, ju_ne, o34s_0, o34s_1, o34s_2, i1, hm]
theorem ck_35900 (hm : jm H b = some (35, 3, o35 .null .null 0)) (hv : v = 0 ∨ v = 1) : M2 (d + 3) 35900 [.ref b, .ref e1, .ref e2, .int (zI v)] H = some (.inl none, jset H b (35, 3, o35 (.ref e1) (.ref e2) v)) := by
  have rv : (jtRecv 35900).elem 35 = true := rfl
  have i1 := ck_30900 (d := d) hm (by omega)
  rw [Y35900 H rfl rfl (jrecv_in hm rv), F35900_0]
  have o1 := okF_z hv
  simp (disch := first | assumption | omega | decide | exact okF_i | exact okF_r | exact okF_n | exact okF_j | rfl) only [jc_ref, rI_int, rR_ref, rR_null, rJ_long, ckR_ref, ckR_null, ckr_ref, ckr_null, ckW_int, ckW_ref, ckW_null, cI_ok, cR_ok, cR_null, cV_ok, cJ_ok, qH_eq, qD_in, aG_ref, aS_ref, aL_ref, pF_ref, cK_ref, cK_null, zI_lit, zJ_lit, zI_add, zI_sub, zI_mul, zI_neg, zI_eq, zI_lt, zI_le, Int.reduceLT, Int.reduceLE, Int.reduceAdd, Int.reduceSub, Int.reduceMul, Int.reduceNeg, Int.reduceEq, Int.reduceNe, reduceIte, jf_in, pFc_in, aGi, aGb, aSi, aLc_in, cKc_in, nA_in, jm_s1, jm_s2, jm_p1, jm_p2, jm_b, jn_b, jn_s, jn_p, jset_jset, jset_jpush2, ckR_is, ckr_is, rR_is, ckW_is, cR_is, obi2, ckW_int, eq_self, if_true, ref_null, if_false, ne_eq, not_true_eq_false, not_false_eq_true, decide_true, decide_false, decide_not, Bool.true_and, Bool.false_and, Bool.and_true, Bool.and_false, Bool.true_or, Bool.false_or, Bool.or_true, Bool.or_false, Bool.not_true, Bool.not_false, Bool.false_eq_true, bI_t, bI_f, Int.natCast_one, Int.cast_ofNat_Int, Int.natCast_zero, ju_self, ju_ne, o35s_0, o35s_1, o35s_2, i1, hm]
theorem mvS (h : RdC B H a 29 n tp sc g z l x y p) : (∀ d w, MvH d 9123 [.ref a, w] H = M2 d 8006 [.ref a, w] H) ∧ (∀ d, MvH d 9124 [.ref a] H = M2 d 8004 [.ref a] H) ∧ (∀ d v w, MvH d 9125 [.ref a, v, w] H = M2 d 8012 [.ref a, v, w] H) ∧ (∀ d, MvH d 9126 [.ref a] H = M2 d 8009 [.ref a] H) ∧ (∀ d, MvH d 9127 [.ref a] H = M2 d 8016 [.ref a] H) ∧ (∀ d, MvH d 9128 [.ref a] H = M2 d 8017 [.ref a] H) ∧ (∀ d v w, MvH d 9129 [.ref a, v, w] H = M2 d 8013 [.ref a, v, w] H) := by
  obtain ⟨f, m0, -⟩ := h.fs
  refine ⟨fun d w => ?_, fun d => ?_, fun d v w => ?_, fun d => ?_, fun d => ?_, fun d => ?_, fun d v w => ?_⟩ <;> (simp only [MvH, m0]; rfl)
end
