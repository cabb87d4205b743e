/-! a plan's cells: the object at p, going at p + 1, wanted at p + 3, steps at p + 4; what it asks of rows -/
-- jc_ref, rI_int, rR_ref, rR_null, rJ_long, ckR_ref, ckR_null, ckr_ref, ckr_null, ckW_int, ckW_ref, ckW_null, cI_ok, cR_ok, cR_null, cV_ok, cJ_ok, qH_eq, qD_in, aG_ref, aS_ref, aL_ref, pF_ref, cK_ref, cK_null, zI_lit, zJ_lit, zI_add, zI_sub, zI_mul, zI_neg, zI_eq, zI_lt, zI_le, Int.reduceLT, Int.reduceLE, Int.reduceAdd, Int.reduceSub, Int.reduceMul, Int.reduceNeg, Int.reduceEq, Int.reduceNe, reduceIte, jf_in, pFc_in, aGi, aGb, aSi, aLc_in, cKc_in, nA_in, jm_s1, jm_s2, jm_p1, jm_p2, jm_b, jn_b, jn_s, jn_p, jset_jset, jset_jpush2, ckR_is, ckr_is, rR_is, ckW_is, cR_is, obi2, ckW_int, eq_self, if_true, ref_null, if_false, ne_eq, not_true_eq_false, not_false_eq_true, decide_true, decide_false, decide_not, Bool.true_and, Bool.false_and, Bool.and_true, Bool.and_false, Bool.true_or, Bool.false_or, Bool.or_true, Bool.or_false, Bool.not_true, Bool.not_false, Bool.false_eq_true, bI_t, bI_f, Int.natCast_one, Int.cast_ofNat_Int, Int.natCast_zero, o23_0, o23_1, o23_2, o12_0, o12_1, o13_0, o13_1, o13_2, o13_3, o13_4, o13_5, o13_6, o14_0, o14_1, o14_2, o14_3, o14_4, o14_5, o3_0, o3_1, o3_2, o3_3, o3_4, o11_0, o11_1, o11_2, o11_3, o4_0, o4_1, o4_2, o4_3, o4_4, o4_5, o4_6, o5_0, o5_1, o5_2, o5_3, o5_4, o5_5, n5, o5s_0, o5s_1, o5s_2, o5s_3, o5s_4, o5s_5 = jc_ref, rI_int, rR_ref, rR_null, rJ_long, ckR_ref, ckR_null, ckr_ref, ckr_null, ckW_int, ckW_ref, ckW_null, cI_ok, cR_ok, cR_null, cV_ok, cJ_ok, qH_eq, qD_in, aG_ref, aS_ref, aL_ref, pF_ref, cK_ref, cK_null, zI_lit, zJ_lit, zI_add, zI_sub, zI_mul, zI_neg, zI_eq, zI_lt, zI_le, Int.reduceLT, Int.reduceLE, Int.reduceAdd, Int.reduceSub, Int.reduceMul, Int.reduceNeg, Int.reduceEq, Int.reduceNe, reduceIte, jf_in, pFc_in, aGi, aGb, aSi, aLc_in, cKc_in, nA_in, jm_s1, jm_s2, jm_p1, jm_p2, jm_b, jn_b, jn_s, jn_p, jset_jset, jset_jpush2, ckR_is, ckr_is, rR_is, ckW_is, cR_is, obi2, ckW_int, eq_self, if_true, ref_null, if_false, ne_eq, not_true_eq_false, not_false_eq_true, decide_true, decide_false, decide_not, Bool.true_and, Bool.false_and, Bool.and_true, Bool.and_false, Bool.true_or, Bool.false_or, Bool.or_true, Bool.or_false, Bool.not_true, Bool.not_false, Bool.false_eq_true, bI_t, bI_f, Int.natCast_one, Int.cast_ofNat_Int, Int.natCast_zero, o23_0, o23_1, o23_2, o12_0, o12_1, o13_0, o13_1, o13_2, o13_3, o13_4, o13_5, o13_6, o14_0, o14_1, o14_2, o14_3, o14_4, o14_5, o3_0, o3_1, o3_2, o3_3, o3_4, o11_0, o11_1, o11_2, o11_3, o4_0, o4_1, o4_2, o4_3, o4_4, o4_5, o4_6, o5_0, o5_1, o5_2, o5_3, o5_4, o5_5, n5, o5s_0, o5s_1, o5s_2, o5s_3, o5s_4, o5s_5
def cw (f : Int → Int) : Int → Int := fun i => if f i = -9 then -2 else f i
def PH (H : AH) (p a wl : Nat) (g : Nat → Bool) (w : WS) (sp : Int → Int) : Prop := jm H p = some (5, 6, o5 (.ref a) (.ref (p + 1)) (.ref (p + 3)) (.ref (p + 4)) w.2.1 w.2.2) ∧ jm H (p + 1) = some (cBS wl g) ∧ jm H (p + 3) = some (1000, 396, aI (cw w.1)) ∧ jm H (p + 4) = some (1000, 99, aI sp) ∧ p + 4 < H.1 ∧ (1 ≤ wl ∧ wl ≤ 2 ∧ ∀ k, 64 * wl ≤ k → g k = false) ∧ WsW w
def PlP (p q : Nat) : Prop := q = p ∨ q = p + 1 ∨ q = p + 3 ∨ q = p + 4
def celW (cs : Int → Int) (w : WS) (r c : Int) : Int := if w.1 (4 * r + c) = -9 then cs c else w.1 (4 * r + c)
theorem cw_fset {f : Int → Int} {i v : Int} (hv : v ≠ -9) : cw (fset f i v) = fset (cw f) i v := by
  funext j
  show (if fset f i v j = -9 then -2 else fset f i v j) = fset (cw f) i v j
  by_cases h : j = i
  · subst h; rw [fset_eq, fset_eq, if_neg hv]
  · rw [fset_ne h, fset_ne h]; rfl
theorem cw_n {f : Int → Int} {i : Int} (h : f i = -9) : cw f i = -2 := if_pos h
theorem cw_v {f : Int → Int} {i : Int} (h : f i ≠ -9) : cw f i = f i := if_neg h
section
variable {F : Nat → Option Cl} {d : Nat} {H H2 : AH} {a b e p q fb pb : Nat} {r t c k n f v : Int} {cs S nm : Int → Int} {ra : Int → Nat} {wl : Nat} {g : Nat → Bool} {w : WS} {sp : Int → Int} {P : Nat → Prop}
theorem PH.fr (h : PH H p a wl g w sp) (fr : Fr H H2 P) (hp : ∀ q, PlP p q → ¬ P q) : PH H2 p a wl g w sp := by
  obtain ⟨h0, h1, h2, h3, h4, h5⟩ := h
  have key : ∀ q, PlP p q → jm H2 q = jm H q := fun q hq => fr.2.2 q (by unfold PlP at hq; omega) (hp q hq)
  exact ⟨(key p (by unfold PlP; omega)).trans h0, (key _ (by unfold PlP; omega)).trans h1, (key _ (by unfold PlP; omega)).trans h2, (key _ (by unfold PlP; omega)).trans h3, Nat.lt_of_lt_of_le h4 fr.1, h5⟩
theorem p_wanted (hp : PH H p a wl g w sp) {x1 : Int} {x2 : Value} (m : jm H b = some (23, 3, o23 r x1 x2)) (r0 : 0 ≤ r) (r1 : r < 99) (c0 : 0 ≤ c) (c1 : c < 4) : M2 (d + 1) 5014 [.ref p, .ref b, .int (zI c)] H = some (.inl (some (.int (zI (cw w.1 (4 * r + c))))), H) := by
  obtain ⟨h0, h1, h2, h3, h4, h5⟩ := hp
  rw [Y5014 H rfl (jrecv_in h0 rfl), F5014_0]
  simp (disch := first | assumption | omega | decide | exact okF_i | exact okF_r | exact okF_n | exact okF_j | rfl) only [jc_ref, rI_int, rR_ref, rR_null, rJ_long, ckR_ref, ckR_null, ckr_ref, ckr_null, ckW_int, ckW_ref, ckW_null, cI_ok, cR_ok, cR_null, cV_ok, cJ_ok, qH_eq, qD_in, aG_ref, aS_ref, aL_ref, pF_ref, cK_ref, cK_null, zI_lit, zJ_lit, zI_add, zI_sub, zI_mul, zI_neg, zI_eq, zI_lt, zI_le, Int.reduceLT, Int.reduceLE, Int.reduceAdd, Int.reduceSub, Int.reduceMul, Int.reduceNeg, Int.reduceEq, Int.reduceNe, reduceIte, jf_in, pFc_in, aGi, aGb, aSi, aLc_in, cKc_in, nA_in, jm_s1, jm_s2, jm_p1, jm_p2, jm_b, jn_b, jn_s, jn_p, jset_jset, jset_jpush2, ckR_is, ckr_is, rR_is, ckW_is, cR_is, obi2, ckW_int, eq_self, if_true, ref_null, if_false, ne_eq, not_true_eq_false, not_false_eq_true, decide_true, decide_false, decide_not, Bool.true_and, Bool.false_and, Bool.and_true, Bool.and_false, Bool.true_or, Bool.false_or, Bool.or_true, Bool.or_false, Bool.not_true, Bool.not_false, Bool.false_eq_true, bI_t, bI_f, Int.natCast_one, Int.cast_ofNat_Int, Int.natCast_zero, o23_0, o23_1, o23_2, o12_0, o12_1, o13_0, o13_1, o13_2, o13_3, o13_4, o13_5, o13_6, o14_0, o14_1, o14_2, o14_3, o14_4, o14_5, o3_0, o3_1, o3_2, o3_3, o3_4, o11_0, o11_1, o11_2, o11_3, o4_0, o4_1, o4_2, o4_3, o4_4, o4_5, o4_6, o5_0, o5_1, o5_2, o5_3, o5_4, o5_5, n5, o5s_0, o5s_1, o5s_2, o5s_3, o5s_4, o5s_5, h0, m, h2]
theorem WsW.rg (hw : WsW w) {i : Int} (i0 : 0 ≤ i) (i1 : i < 396) : -9 ≤ w.1 i ∧ w.1 i ≤ 99 := by
  rcases hw.1 i i0 i1 with h | h <;> omega
theorem p_cell (hF : Fzn F H) (hp : PH H p a wl g w sp) (hr : RowF F b r t cs) (hc : CsW cs) (r0 : 0 ≤ r) (r1 : r < 99) (c0 : 0 ≤ c) (c1 : c < 4) : M2 (d + 2) 5001 [.ref p, .ref b, .int (zI c)] H = some (.inl (some (.int (zI (celW cs w r c)))), H) := by
  obtain ⟨e, gr, m1, m2, m3⟩ := hr
  replace m1 := hF.m m1
  replace m2 := hF.m m2
  have wt := p_wanted (d := d) hp m1 r0 r1 c0 c1
  have h0 := hp.1
  have hw := hp.2.2.2.2.2.2.1 (4 * r + c) (by omega) (by omega)
  have m3' := m3 c c0 c1
  rw [Y5001 H rfl (jrecv_in h0 rfl), F5001_0]
  unfold celW
  by_cases q : w.1 (4 * r + c) = -9
  · rw [cw_n q] at wt
    rw [if_pos q]
    simp (disch := first | assumption | omega | decide | exact okF_i | exact okF_r | exact okF_n | exact okF_j | rfl) only [jc_ref, rI_int, rR_ref, rR_null, rJ_long, ckR_ref, ckR_null, ckr_ref, ckr_null, ckW_int, ckW_ref, ckW_null, cI_ok, cR_ok, cR_null, cV_ok, cJ_ok, qH_eq, qD_in, aG_ref, aS_ref, aL_ref, pF_ref, cK_ref, cK_null, zI_lit, zJ_lit, zI_add, zI_sub, zI_mul, zI_neg, zI_eq, zI_lt, zI_le, Int.reduceLT, Int.reduceLE, Int.reduceAdd, Int.reduceSub, Int.reduceMul, Int.reduceNeg, Int.reduceEq, Int.reduceNe, reduceIte, jf_in, pFc_in, aGi, aGb, aSi, aLc_in, cKc_in, nA_in, jm_s1, jm_s2, jm_p1, jm_p2, jm_b, jn_b, jn_s, jn_p, jset_jset, jset_jpush2, ckR_is, ckr_is, rR_is, ckW_is, cR_is, obi2, ckW_int, eq_self, if_true, ref_null, if_false, ne_eq, not_true_eq_false, not_false_eq_true, decide_true, decide_false, decide_not, Bool.true_and, Bool.false_and, Bool.and_true, Bool.and_false, Bool.true_or, Bool.false_or, Bool.or_true, Bool.or_false, Bool.not_true, Bool.not_false, Bool.false_eq_true, bI_t, bI_f, Int.natCast_one, Int.cast_ofNat_Int, Int.natCast_zero, o23_0, o23_1, o23_2, o12_0, o12_1, o13_0, o13_1, o13_2, o13_3, o13_4, o13_5, o13_6, o14_0, o14_1, o14_2, o14_3, o14_4, o14_5, o3_0, o3_1, o3_2, o3_3, o3_4, o11_0, o11_1, o11_2, o11_3, o4_0, o4_1, o4_2, o4_3, o4_4, o4_5, o4_6, o5_0, o5_1, o5_2, o5_3, o5_4, o5_5, n5, o5s_0, o5s_1, o5s_2, o5s_3, o5s_4, o5s_5, wt, m1, m2, m3']
  · rw [cw_v q] at wt
    rw [if_neg q]
    simp (disch := first | assumption | omega | decide | exact okF_i | exact okF_r | exact okF_n | exact okF_j | rfl) only [jc_ref, rI_int, rR_ref, rR_null, rJ_long, ckR_ref, ckR_null, ckr_ref, ckr_null, ckW_int, ckW_ref, ckW_null, cI_ok, cR_ok, cR_null, cV_ok, cJ_ok, qH_eq, qD_in, aG_ref, aS_ref, aL_ref, pF_ref, cK_ref, cK_null, zI_lit, zJ_lit, zI_add, zI_sub, zI_mul, zI_neg, zI_eq, zI_lt, zI_le, Int.reduceLT, Int.reduceLE, Int.reduceAdd, Int.reduceSub, Int.reduceMul, Int.reduceNeg, Int.reduceEq, Int.reduceNe, reduceIte, jf_in, pFc_in, aGi, aGb, aSi, aLc_in, cKc_in, nA_in, jm_s1, jm_s2, jm_p1, jm_p2, jm_b, jn_b, jn_s, jn_p, jset_jset, jset_jpush2, ckR_is, ckr_is, rR_is, ckW_is, cR_is, obi2, ckW_int, eq_self, if_true, ref_null, if_false, ne_eq, not_true_eq_false, not_false_eq_true, decide_true, decide_false, decide_not, Bool.true_and, Bool.false_and, Bool.and_true, Bool.and_false, Bool.true_or, Bool.false_or, Bool.or_true, Bool.or_false, Bool.not_true, Bool.not_false, Bool.false_eq_true, bI_t, bI_f, Int.natCast_one, Int.cast_ofNat_Int, Int.natCast_zero, o23_0, o23_1, o23_2, o12_0, o12_1, o13_0, o13_1, o13_2, o13_3, o13_4, o13_5, o13_6, o14_0, o14_1, o14_2, o14_3, o14_4, o14_5, o3_0, o3_1, o3_2, o3_3, o3_4, o11_0, o11_1, o11_2, o11_3, o4_0, o4_1, o4_2, o4_3, o4_4, o4_5, o4_6, o5_0, o5_1, o5_2, o5_3, o5_4, o5_5, n5, o5s_0, o5s_1, o5s_2, o5s_3, o5s_4, o5s_5, wt]
    rw [if_neg (by omega)]
theorem p_goes (hF : Fzn F H) (hp : PH H p a wl g w sp) (hr : RowF F b r t cs) (r0 : 0 ≤ r) (r1 : r < 99) : M2 (d + 2) 5007 [.ref p, .ref b] H = some (.inl (some (bI (g r.toNat))), H) := by
  obtain ⟨e, gr, m1, m2, m3⟩ := hr
  replace m1 := hF.m m1
  obtain ⟨h0, h1, h2, h3, h4, h5, h6⟩ := hp
  have bg := h_bget (d := d) h1 (i := r) (by have := h5.2.1; omega) r0 (by omega)
  rw [bI_int] at bg ⊢
  rw [Y5007 H rfl (jrecv_in h0 rfl), F5007_0]
  simp (disch := first | assumption | omega | decide | exact okF_i | exact okF_r | exact okF_n | exact okF_j | rfl) only [jc_ref, rI_int, rR_ref, rR_null, rJ_long, ckR_ref, ckR_null, ckr_ref, ckr_null, ckW_int, ckW_ref, ckW_null, cI_ok, cR_ok, cR_null, cV_ok, cJ_ok, qH_eq, qD_in, aG_ref, aS_ref, aL_ref, pF_ref, cK_ref, cK_null, zI_lit, zJ_lit, zI_add, zI_sub, zI_mul, zI_neg, zI_eq, zI_lt, zI_le, Int.reduceLT, Int.reduceLE, Int.reduceAdd, Int.reduceSub, Int.reduceMul, Int.reduceNeg, Int.reduceEq, Int.reduceNe, reduceIte, jf_in, pFc_in, aGi, aGb, aSi, aLc_in, cKc_in, nA_in, jm_s1, jm_s2, jm_p1, jm_p2, jm_b, jn_b, jn_s, jn_p, jset_jset, jset_jpush2, ckR_is, ckr_is, rR_is, ckW_is, cR_is, obi2, ckW_int, eq_self, if_true, ref_null, if_false, ne_eq, not_true_eq_false, not_false_eq_true, decide_true, decide_false, decide_not, Bool.true_and, Bool.false_and, Bool.and_true, Bool.and_false, Bool.true_or, Bool.false_or, Bool.or_true, Bool.or_false, Bool.not_true, Bool.not_false, Bool.false_eq_true, bI_t, bI_f, Int.natCast_one, Int.cast_ofNat_Int, Int.natCast_zero, o23_0, o23_1, o23_2, o12_0, o12_1, o13_0, o13_1, o13_2, o13_3, o13_4, o13_5, o13_6, o14_0, o14_1, o14_2, o14_3, o14_4, o14_5, o3_0, o3_1, o3_2, o3_3, o3_4, o11_0, o11_1, o11_2, o11_3, o4_0, o4_1, o4_2, o4_3, o4_4, o4_5, o4_6, o5_0, o5_1, o5_2, o5_3, o5_4, o5_5, n5, o5s_0, o5s_1, o5s_2, o5s_3, o5s_4, o5s_5, h0, m1, bg, okZ_B]
/-- a want is laid down -/
theorem p_wants (hp : PH H p a wl g w sp) {x1 : Int} {x2 : Value} (m : jm H b = some (23, 3, o23 r x1 x2)) (r0 : 0 ≤ r) (r1 : r < 99) (c0 : 0 ≤ c) (c1 : c < 4) (v0 : -1 ≤ v) (v1 : v ≤ 99) :
    ∃ H2, M2 (d + 2) 5015 [.ref p, .ref b, .int (zI c), .int (zI v)] H = some (.inl none, H2) ∧ PH H2 p a wl g (want1 w (4 * r + c) v) sp ∧ Fr H H2 (fun q => q = p ∨ q = p + 3) ∧ H2.1 = H.1 ∧ H2.2.1 = H.2.1 := by
  have wt := p_wanted (d := d) hp m r0 r1 c0 c1
  have hp' := hp
  obtain ⟨h0, h1, h2, h3, h4, h5, h6⟩ := hp
  have hw := h6.1 (4 * r + c) (by omega) (by omega)
  have hW2 := want1_W (i := 4 * r + c) h6 ⟨v0, v1⟩
  have e1 : p + 3 ≠ p := by omega
  have e2 : p ≠ p + 3 := by omega
  have okz1 : okF 3 (.int (zI 1)) = true := rfl
  by_cases q : w.1 (4 * r + c) = -9
  · rw [cw_n q] at wt
    have ew : want1 w (4 * r + c) v = (fset w.1 (4 * r + c) v, w.2.1, 1) := by unfold want1; rw [if_pos q]
    rw [ew] at hW2 ⊢
    refine ⟨jset (jset H (p + 3) (1000, 396, aI (cw (fset w.1 (4 * r + c) v)))) p (5, 6, o5 (.ref a) (.ref (p + 1)) (.ref (p + 3)) (.ref (p + 4)) w.2.1 1), ?_, ⟨jm_s1, (jm_s2 (show p + 1 ≠ p by omega)).trans ((jm_s2 (show p + 1 ≠ p + 3 by omega)).trans h1), (jm_s2 e1).trans jm_s1, (jm_s2 (show p + 4 ≠ p by omega)).trans ((jm_s2 (show p + 4 ≠ p + 3 by omega)).trans h3), h4, h5, hW2⟩, (Fr.set (Or.inr rfl)).tr (Fr.set (Or.inl rfl)), rfl, rfl⟩
    rw [cw_fset (by omega)]
    have bp : b ≠ p + 3 := by rintro rfl; rw [h2] at m; cases m
    rw [Y5015 H rfl (jrecv_in h0 rfl), F5015_0]
    simp (disch := first | assumption | omega | decide | exact okF_i | exact okF_r | exact okF_n | exact okF_j | rfl) only [jc_ref, rI_int, rR_ref, rR_null, rJ_long, ckR_ref, ckR_null, ckr_ref, ckr_null, ckW_int, ckW_ref, ckW_null, cI_ok, cR_ok, cR_null, cV_ok, cJ_ok, qH_eq, qD_in, aG_ref, aS_ref, aL_ref, pF_ref, cK_ref, cK_null, zI_lit, zJ_lit, zI_add, zI_sub, zI_mul, zI_neg, zI_eq, zI_lt, zI_le, Int.reduceLT, Int.reduceLE, Int.reduceAdd, Int.reduceSub, Int.reduceMul, Int.reduceNeg, Int.reduceEq, Int.reduceNe, reduceIte, jf_in, pFc_in, aGi, aGb, aSi, aLc_in, cKc_in, nA_in, jm_s1, jm_s2, jm_p1, jm_p2, jm_b, jn_b, jn_s, jn_p, jset_jset, jset_jpush2, ckR_is, ckr_is, rR_is, ckW_is, cR_is, obi2, ckW_int, eq_self, if_true, ref_null, if_false, ne_eq, not_true_eq_false, not_false_eq_true, decide_true, decide_false, decide_not, Bool.true_and, Bool.false_and, Bool.and_true, Bool.and_false, Bool.true_or, Bool.false_or, Bool.or_true, Bool.or_false, Bool.not_true, Bool.not_false, Bool.false_eq_true, bI_t, bI_f, Int.natCast_one, Int.cast_ofNat_Int, Int.natCast_zero, o23_0, o23_1, o23_2, o12_0, o12_1, o13_0, o13_1, o13_2, o13_3, o13_4, o13_5, o13_6, o14_0, o14_1, o14_2, o14_3, o14_4, o14_5, o3_0, o3_1, o3_2, o3_3, o3_4, o11_0, o11_1, o11_2, o11_3, o4_0, o4_1, o4_2, o4_3, o4_4, o4_5, o4_6, o5_0, o5_1, o5_2, o5_3, o5_4, o5_5, n5, o5s_0, o5s_1, o5s_2, o5s_3, o5s_4, o5s_5, wt, h0, m, h2]
  · rw [cw_v q] at wt
    by_cases q2 : w.1 (4 * r + c) = v
    · have ew : want1 w (4 * r + c) v = w := by
        unfold want1
        rw [if_neg q]
        obtain ⟨w1, w2, w3⟩ := w
        rcases h6.2.1 with h | h
        · simp only at h q2
          rw [if_pos ⟨h, q2⟩, h]
        · simp only at h
          rw [if_neg (by simp only [h]; omega), h]
      rw [ew]
      refine ⟨H, ?_, hp', Fr.rf, rfl, rfl⟩
      rw [Y5015 H rfl (jrecv_in h0 rfl), F5015_0]
      simp (disch := first | assumption | omega | decide | exact okF_i | exact okF_r | exact okF_n | exact okF_j | rfl) only [jc_ref, rI_int, rR_ref, rR_null, rJ_long, ckR_ref, ckR_null, ckr_ref, ckr_null, ckW_int, ckW_ref, ckW_null, cI_ok, cR_ok, cR_null, cV_ok, cJ_ok, qH_eq, qD_in, aG_ref, aS_ref, aL_ref, pF_ref, cK_ref, cK_null, zI_lit, zJ_lit, zI_add, zI_sub, zI_mul, zI_neg, zI_eq, zI_lt, zI_le, Int.reduceLT, Int.reduceLE, Int.reduceAdd, Int.reduceSub, Int.reduceMul, Int.reduceNeg, Int.reduceEq, Int.reduceNe, reduceIte, jf_in, pFc_in, aGi, aGb, aSi, aLc_in, cKc_in, nA_in, jm_s1, jm_s2, jm_p1, jm_p2, jm_b, jn_b, jn_s, jn_p, jset_jset, jset_jpush2, ckR_is, ckr_is, rR_is, ckW_is, cR_is, obi2, ckW_int, eq_self, if_true, ref_null, if_false, ne_eq, not_true_eq_false, not_false_eq_true, decide_true, decide_false, decide_not, Bool.true_and, Bool.false_and, Bool.and_true, Bool.and_false, Bool.true_or, Bool.false_or, Bool.or_true, Bool.or_false, Bool.not_true, Bool.not_false, Bool.false_eq_true, bI_t, bI_f, Int.natCast_one, Int.cast_ofNat_Int, Int.natCast_zero, o23_0, o23_1, o23_2, o12_0, o12_1, o13_0, o13_1, o13_2, o13_3, o13_4, o13_5, o13_6, o14_0, o14_1, o14_2, o14_3, o14_4, o14_5, o3_0, o3_1, o3_2, o3_3, o3_4, o11_0, o11_1, o11_2, o11_3, o4_0, o4_1, o4_2, o4_3, o4_4, o4_5, o4_6, o5_0, o5_1, o5_2, o5_3, o5_4, o5_5, n5, o5s_0, o5s_1, o5s_2, o5s_3, o5s_4, o5s_5, wt]
      rw [if_neg (by omega), if_pos q2]
    · have ew : want1 w (4 * r + c) v = (w.1, 1, w.2.2) := by unfold want1; rw [if_neg q, if_neg (fun z => q2 z.2)]
      rw [ew] at hW2 ⊢
      refine ⟨jset H p (5, 6, o5 (.ref a) (.ref (p + 1)) (.ref (p + 3)) (.ref (p + 4)) 1 w.2.2), ?_, ⟨jm_s1, (jm_s2 (show p + 1 ≠ p by omega)).trans h1, (jm_s2 e1).trans h2, (jm_s2 (show p + 4 ≠ p by omega)).trans h3, h4, h5, hW2⟩, Fr.set (Or.inl rfl), rfl, rfl⟩
      rw [Y5015 H rfl (jrecv_in h0 rfl), F5015_0]
      simp (disch := first | assumption | omega | decide | exact okF_i | exact okF_r | exact okF_n | exact okF_j | rfl) only [jc_ref, rI_int, rR_ref, rR_null, rJ_long, ckR_ref, ckR_null, ckr_ref, ckr_null, ckW_int, ckW_ref, ckW_null, cI_ok, cR_ok, cR_null, cV_ok, cJ_ok, qH_eq, qD_in, aG_ref, aS_ref, aL_ref, pF_ref, cK_ref, cK_null, zI_lit, zJ_lit, zI_add, zI_sub, zI_mul, zI_neg, zI_eq, zI_lt, zI_le, Int.reduceLT, Int.reduceLE, Int.reduceAdd, Int.reduceSub, Int.reduceMul, Int.reduceNeg, Int.reduceEq, Int.reduceNe, reduceIte, jf_in, pFc_in, aGi, aGb, aSi, aLc_in, cKc_in, nA_in, jm_s1, jm_s2, jm_p1, jm_p2, jm_b, jn_b, jn_s, jn_p, jset_jset, jset_jpush2, ckR_is, ckr_is, rR_is, ckW_is, cR_is, obi2, ckW_int, eq_self, if_true, ref_null, if_false, ne_eq, not_true_eq_false, not_false_eq_true, decide_true, decide_false, decide_not, Bool.true_and, Bool.false_and, Bool.and_true, Bool.and_false, Bool.true_or, Bool.false_or, Bool.or_true, Bool.or_false, Bool.not_true, Bool.not_false, Bool.false_eq_true, bI_t, bI_f, Int.natCast_one, Int.cast_ofNat_Int, Int.natCast_zero, o23_0, o23_1, o23_2, o12_0, o12_1, o13_0, o13_1, o13_2, o13_3, o13_4, o13_5, o13_6, o14_0, o14_1, o14_2, o14_3, o14_4, o14_5, o3_0, o3_1, o3_2, o3_3, o3_4, o11_0, o11_1, o11_2, o11_3, o4_0, o4_1, o4_2, o4_3, o4_4, o4_5, o4_6, o5_0, o5_1, o5_2, o5_3, o5_4, o5_5, n5, o5s_0, o5s_1, o5s_2, o5s_3, o5s_4, o5s_5, wt, h0]
      rw [if_neg (by omega), if_neg q2]
/-! all that stands while a plan is laid out -/
def PlW (F : Nat → Option Cl) (H : AH) (q a p : Nat) (S nm : Int → Int) (ra : Int → Nat) (wl : Nat) (g : Nat → Bool) (w : WS) (sp : Int → Int) : Prop := Fzn F H ∧ SchF F q S nm ∧ StW S ∧ (∃ (ins on : Int) (l1 l2 l3 : List Value) (wm : Nat) (bs : Nat → Bool), SH H a (.ref q) ins on l1 l2 l3 wm bs ∧ RowsF F l1 S 150 348 ra) ∧ PH H p a wl g w sp ∧ (∀ x, PlP p x → F x = none) ∧ (a + 8 < p ∨ p + 4 < a)
theorem PlW.sq (h : PlW F H q a p S nm ra wl g w sp) : StoQ F H a q S ra := by
  obtain ⟨-, -, -, ⟨ins, on, l1, l2, l3, wm, bs, ⟨h0, ⟨m1, h1⟩, -, -, -, h5, -⟩, h6⟩, -⟩ := h
  exact ⟨ins, on, a + 1, _, _, _, 40, m1, l1, h0, h1, by omega, h6, by omega, by omega⟩
theorem PlW.row (h : PlW F H q a p S nm ra wl g w sp) {r : Int} (r0 : 0 ≤ r) (r1 : r < 99) (r2 : S (150 + r) = 1) : RowF F (ra r) r (S (249 + r)) (cellS S r) := by
  obtain ⟨-, -, -, ⟨ins, on, l1, l2, l3, wm, bs, -, h6⟩, -⟩ := h
  exact h6.2 r r0 r1 r2
/-- a step that writes the plan alone -/
theorem PlW.st {wl2 : Nat} {g2 : Nat → Bool} {w2 : WS} {sp2 : Int → Int} (h : PlW F H q a p S nm ra wl g w sp) (hp : PH H2 p a wl2 g2 w2 sp2) (fr : Fr H H2 (PlP p)) : PlW F H2 q a p S nm ra wl2 g2 w2 sp2 := by
  obtain ⟨h1, h2, h3, ⟨ins, on, l1, l2, l3, wm, bs, h4, h5⟩, -, h6, h7⟩ := h
  exact ⟨h1.fr fr h6, h2, h3, ⟨ins, on, l1, l2, l3, wm, bs, h4.fr fr fun x hx z => by unfold StP at hx; unfold PlP at z; omega, h5⟩, hp, h6, h7⟩
theorem PlP.of03 {x : Nat} (h : x = p ∨ x = p + 3) : PlP p x := by unfold PlP; omega
end
