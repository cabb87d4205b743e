/-! a store's cells: the object at a, rows at a + 1, ahead at a + 3, was at a + 5, broken at a + 7 -/
-- jc_ref, rI_int, rR_ref, rR_null, rJ_long, ckR_ref, ckR_null, ckr_ref, ckr_null, ckW_int, ckW_ref, ckW_null, cI_ok, cR_ok, cR_null, cV_ok, cJ_ok, qH_eq, qD_in, aG_ref, aS_ref, aL_ref, pF_ref, cK_ref, cK_null, zI_lit, zJ_lit, zI_add, zI_sub, zI_mul, zI_neg, zI_eq, zI_lt, zI_le, Int.reduceLT, Int.reduceLE, Int.reduceAdd, Int.reduceSub, Int.reduceMul, Int.reduceNeg, Int.reduceEq, Int.reduceNe, reduceIte, jf_in, pFc_in, aGi, aGb, aSi, aLc_in, cKc_in, nA_in, jm_s1, jm_s2, jm_p1, jm_p2, jm_b, jn_b, jn_s, jn_p, jset_jset, jset_jpush2, ckR_is, ckr_is, rR_is, ckW_is, cR_is, obi2, ckW_int, eq_self, if_true, ref_null, if_false, ne_eq, not_true_eq_false, not_false_eq_true, decide_true, decide_false, decide_not, Bool.true_and, Bool.false_and, Bool.and_true, Bool.and_false, Bool.true_or, Bool.false_or, Bool.or_true, Bool.or_false, Bool.not_true, Bool.not_false, Bool.false_eq_true, bI_t, bI_f, Int.natCast_one, Int.cast_ofNat_Int, Int.natCast_zero, o23_0, o23_1, o23_2, o4_0, o4_1, o4_2, o4_3, o4_4, o4_5, o4_6, n4, o4s_0, o4s_1, o4s_2, o4s_3, o4s_4, o4s_5, o4s_6 = jc_ref, rI_int, rR_ref, rR_null, rJ_long, ckR_ref, ckR_null, ckr_ref, ckr_null, ckW_int, ckW_ref, ckW_null, cI_ok, cR_ok, cR_null, cV_ok, cJ_ok, qH_eq, qD_in, aG_ref, aS_ref, aL_ref, pF_ref, cK_ref, cK_null, zI_lit, zJ_lit, zI_add, zI_sub, zI_mul, zI_neg, zI_eq, zI_lt, zI_le, Int.reduceLT, Int.reduceLE, Int.reduceAdd, Int.reduceSub, Int.reduceMul, Int.reduceNeg, Int.reduceEq, Int.reduceNe, reduceIte, jf_in, pFc_in, aGi, aGb, aSi, aLc_in, cKc_in, nA_in, jm_s1, jm_s2, jm_p1, jm_p2, jm_b, jn_b, jn_s, jn_p, jset_jset, jset_jpush2, ckR_is, ckr_is, rR_is, ckW_is, cR_is, obi2, ckW_int, eq_self, if_true, ref_null, if_false, ne_eq, not_true_eq_false, not_false_eq_true, decide_true, decide_false, decide_not, Bool.true_and, Bool.false_and, Bool.and_true, Bool.and_false, Bool.true_or, Bool.false_or, Bool.or_true, Bool.or_false, Bool.not_true, Bool.not_false, Bool.false_eq_true, bI_t, bI_f, Int.natCast_one, Int.cast_ofNat_Int, Int.natCast_zero, o23_0, o23_1, o23_2, o4_0, o4_1, o4_2, o4_3, o4_4, o4_5, o4_6, n4, o4s_0, o4s_1, o4s_2, o4s_3, o4s_4, o4s_5, o4s_6
def SH (H : AH) (a : Nat) (v : Value) (ins on : Int) (l1 l2 l3 : List Value) (wl : Nat) (bs : Nat → Bool) : Prop := jm H a = some (4, 7, o4 v ins on (.ref (a + 1)) (.ref (a + 3)) (.ref (a + 5)) (.ref (a + 7))) ∧ (∃ mc, jm H (a + 1) = some (cAL 40 mc l1)) ∧ (∃ mc, jm H (a + 3) = some (cAL 40 mc l2)) ∧ (∃ mc, jm H (a + 5) = some (cAL 40 mc l3)) ∧ jm H (a + 7) = some (cBS wl bs) ∧ a + 8 < H.1 ∧ isR v = true ∧ 1 ≤ wl ∧ wl ≤ 2
/-- the cells of a store -/
def StP (a q : Nat) : Prop := q = a ∨ q = a + 1 ∨ q = a + 3 ∨ q = a + 5 ∨ q = a + 7
/-- what is in a list of rows -/
def RwL (H : AH) (l : List Value) : Prop := l.length ≤ 40 ∧ ∀ v ∈ l, ∃ (b : Nat) (c : Nat × (Nat → Value)), v = .ref b ∧ jm H b = some (23, c) ∧ b < H.1
section
variable {F : Nat → Option Cl} {d : Nat} {H H2 : AH} {a b q f t : Nat} {v w : Value} {ins on ins2 on2 : Int} {l l1 l2 l3 k1 k2 k3 : List Value} {wl wm : Nat} {bs bt : Nat → Bool} {S nm : Int → Int} {ra : Int → Nat} {P : Nat → Prop}
theorem SH.fr (h : SH H a v ins on l1 l2 l3 wl bs) (fr : Fr H H2 P) (hp : ∀ q, StP a q → ¬ P q) : SH H2 a v ins on l1 l2 l3 wl bs := by
  obtain ⟨h0, ⟨m1, h1⟩, ⟨m2, h2⟩, ⟨m3, h3⟩, h4, h5, h6⟩ := h
  have key : ∀ q, StP a q → jm H2 q = jm H q := fun q hq => fr.2.2 q (by unfold StP at hq; omega) (hp q hq)
  exact ⟨(key a (by unfold StP; omega)).trans h0, ⟨m1, (key _ (by unfold StP; omega)).trans h1⟩, ⟨m2, (key _ (by unfold StP; omega)).trans h2⟩, ⟨m3, (key _ (by unfold StP; omega)).trans h3⟩, (key _ (by unfold StP; omega)).trans h4, Nat.lt_of_lt_of_le h5 fr.1, h6⟩
theorem RwL.fr (h : RwL H l) (fr : Fr H H2 P) (hp : ∀ q c, jm H q = some (23, c) → ¬ P q) : RwL H2 l := ⟨h.1, fun v hv => by
  obtain ⟨b, c, e, m, lt⟩ := h.2 v hv
  exact ⟨b, c, e, (fr.2.2 b lt (hp b c m)).trans m, Nat.lt_of_lt_of_le lt fr.1⟩⟩
theorem RwL.st (h : RwL H l) (hs : SH H a v ins on l1 l2 l3 wl bs) (fr : Fr H H2 (fun q => q = a ∨ q = a + 1 ∨ q = a + 3 ∨ q = a + 5 ∨ q = a + 7)) : RwL H2 l := by
  obtain ⟨h0, ⟨m1, h1⟩, ⟨m2, h2⟩, ⟨m3, h3⟩, h4, -⟩ := hs
  refine h.fr fr fun q c m z => ?_
  rcases z with z | z | z | z | z
  · rw [z, h0] at m; cases m
  · rw [z, h1] at m; cases m
  · rw [z, h2] at m; cases m
  · rw [z, h3] at m; cases m
  · rw [z, h4] at m; cases m
theorem RwL.of {at_ ct : Int} (h : RowsF F l S at_ ct ra) (hF : Fzn F H) (hl : l.length ≤ 40) : RwL H l := ⟨hl, fun v hv => by
  rw [h.1, List.mem_map] at hv
  obtain ⟨r, r1, r2⟩ := hv
  have := (alv_mem 99 0 r).mp r1
  obtain ⟨e, g, x1, -⟩ := h.2 r (by omega) (by omega) this.2.2
  exact ⟨ra r, _, r2.symm, hF.m x1, hF.lt x1⟩⟩
theorem take_get {n : Nat} (hn : n < l.length) : l.take n ++ [l.getD n .null] = l.take (n + 1) := by
  rw [List.take_succ, List.getElem?_eq_getElem hn, List.getD_eq_getElem?_getD, List.getElem?_eq_getElem hn]
  rfl
theorem cp_loop {cf : Nat} {mf : Int32} (hf : jm H f = some (cAL cf mf l)) (hc : cf < 1000) (hft : f ≠ t) (hl : RwL H l) (ht : ∃ c : Cl, jm H t = some c ∧ c.1 ≠ 23) : ∀ (m n : Nat) (mc : Int32), n + m = l.length → ∃ mc2, G2 (d + 1) 4003 6 [.ref f, .ref t, .int (zI n)] [] (jset H t (cAL 40 mc (l.take n))) = some (.inl none, jset H t (cAL 40 mc2 l)) := by
  have hll := hl.1
  have hft' := Ne.symm hft
  intro m
  induction m with
  | zero =>
    intro n mc hn
    have mf2 : jm (jset H t (cAL 40 mc (l.take n))) f = some (cAL cf mf l) := (jm_s2 hft).trans hf
    have hs := h_size (d := d) mf2
    refine ⟨mc, ?_⟩
    rw [F4003_6]
    simp (disch := first | assumption | omega | decide | exact okF_i | exact okF_r | exact okF_n | exact okF_j | rfl) only [jc_ref, rI_int, rR_ref, rR_null, rJ_long, ckR_ref, ckR_null, ckr_ref, ckr_null, ckW_int, ckW_ref, ckW_null, cI_ok, cR_ok, cR_null, cV_ok, cJ_ok, qH_eq, qD_in, aG_ref, aS_ref, aL_ref, pF_ref, cK_ref, cK_null, zI_lit, zJ_lit, zI_add, zI_sub, zI_mul, zI_neg, zI_eq, zI_lt, zI_le, Int.reduceLT, Int.reduceLE, Int.reduceAdd, Int.reduceSub, Int.reduceMul, Int.reduceNeg, Int.reduceEq, Int.reduceNe, reduceIte, jf_in, pFc_in, aGi, aGb, aSi, aLc_in, cKc_in, nA_in, jm_s1, jm_s2, jm_p1, jm_p2, jm_b, jn_b, jn_s, jn_p, jset_jset, jset_jpush2, ckR_is, ckr_is, rR_is, ckW_is, cR_is, obi2, ckW_int, eq_self, if_true, ref_null, if_false, ne_eq, not_true_eq_false, not_false_eq_true, decide_true, decide_false, decide_not, Bool.true_and, Bool.false_and, Bool.and_true, Bool.and_false, Bool.true_or, Bool.false_or, Bool.or_true, Bool.or_false, Bool.not_true, Bool.not_false, Bool.false_eq_true, bI_t, bI_f, Int.natCast_one, Int.cast_ofNat_Int, Int.natCast_zero, o23_0, o23_1, o23_2, o4_0, o4_1, o4_2, o4_3, o4_4, o4_5, o4_6, n4, o4s_0, o4s_1, o4s_2, o4s_3, o4s_4, o4s_5, o4s_6, hs]
    rw [if_pos (by omega), show l.take n = l by rw [show n = l.length by omega, List.take_length]]
  | succ m ih =>
    intro n mc hn
    have mf2 : jm (jset H t (cAL 40 mc (l.take n))) f = some (cAL cf mf l) := (jm_s2 hft).trans hf
    have hs := h_size (d := d) mf2
    have hg := h_get (d := d) (i := n) mf2 (by omega) (by omega) (by omega) (by omega)
    rw [Int.toNat_natCast] at hg
    obtain ⟨b, ⟨cn, cff⟩, e, mb, lb⟩ := hl.2 _ (getD_in (show n < l.length by omega))
    obtain ⟨ct, h1, h2⟩ := ht
    have hbt : b ≠ t := by rintro rfl; rw [mb] at h1; cases h1; exact h2 rfl
    have mb2 : jm (jset H t (cAL 40 mc (l.take n))) b = some (23, cn, cff) := (jm_s2 hbt).trans mb
    have mt2 : jm (jset H t (cAL 40 mc (l.take n))) t = some (cAL 40 mc (l.take n)) := jm_s1
    have ha := h_add (d := d) mt2 (by omega) (v := l.getD n .null) (Or.inr ⟨b, _, e, mb2, by show 23 < 1000; omega⟩)
    have tl : (l.take n).length = n := by rw [List.length_take]; omega
    rw [tl] at ha
    have u1 : alUp 40 n = 40 := by unfold alUp; rw [if_pos (by omega)]
    have u2 : ∀ X, alBurn X 40 n = X := fun X => by unfold alBurn; rw [if_pos (by omega)]
    rw [u1, u2, take_get (by omega), jset_jset] at ha
    obtain ⟨mc2, i1⟩ := ih (n + 1) (mc + zI 1) (by omega)
    refine ⟨mc2, ?_⟩
    rw [e] at hg ha
    rw [F4003_6]
    simp (disch := first | assumption | omega | decide | exact okF_i | exact okF_r | exact okF_n | exact okF_j | rfl) only [jc_ref, rI_int, rR_ref, rR_null, rJ_long, ckR_ref, ckR_null, ckr_ref, ckr_null, ckW_int, ckW_ref, ckW_null, cI_ok, cR_ok, cR_null, cV_ok, cJ_ok, qH_eq, qD_in, aG_ref, aS_ref, aL_ref, pF_ref, cK_ref, cK_null, zI_lit, zJ_lit, zI_add, zI_sub, zI_mul, zI_neg, zI_eq, zI_lt, zI_le, Int.reduceLT, Int.reduceLE, Int.reduceAdd, Int.reduceSub, Int.reduceMul, Int.reduceNeg, Int.reduceEq, Int.reduceNe, reduceIte, jf_in, pFc_in, aGi, aGb, aSi, aLc_in, cKc_in, nA_in, jm_s1, jm_s2, jm_p1, jm_p2, jm_b, jn_b, jn_s, jn_p, jset_jset, jset_jpush2, ckR_is, ckr_is, rR_is, ckW_is, cR_is, obi2, ckW_int, eq_self, if_true, ref_null, if_false, ne_eq, not_true_eq_false, not_false_eq_true, decide_true, decide_false, decide_not, Bool.true_and, Bool.false_and, Bool.and_true, Bool.and_false, Bool.true_or, Bool.false_or, Bool.or_true, Bool.or_false, Bool.not_true, Bool.not_false, Bool.false_eq_true, bI_t, bI_f, Int.natCast_one, Int.cast_ofNat_Int, Int.natCast_zero, o23_0, o23_1, o23_2, o4_0, o4_1, o4_2, o4_3, o4_4, o4_5, o4_6, n4, o4s_0, o4s_1, o4s_2, o4s_3, o4s_4, o4s_5, o4s_6, hs, hg, mb2, ha]
    rw [if_neg (by omega)]
    exact i1
theorem c_copy {cf : Nat} {mf mt : Int32} (hf : jm H f = some (cAL cf mf l)) (hc : cf < 1000) (hft : f ≠ t) (hl : RwL H l) (ht : jm H t = some (cAL 40 mt k1)) : ∃ mc, M2 (d + 2) 4003 [.ref f, .ref t] H = some (.inl none, jset H t (cAL 40 mc l)) := by
  obtain ⟨mc, i1⟩ := cp_loop (d := d) hf hc hft hl ⟨_, ht, by show 243 ≠ 23; decide⟩ l.length 0 (mt + zI 1) (by omega)
  have cl := h_clear (d := d) ht (by omega)
  refine ⟨mc, ?_⟩
  have i1' : G2 (d + 1) 4003 6 [.ref f, .ref t, .int (zI 0)] [] (jset H t (cAL 40 (mt + zI 1) [])) = some (.inl none, jset H t (cAL 40 mc l)) := i1
  rw [Y4003 H rfl rfl, F4003_0]
  simp (disch := first | assumption | omega | decide | exact okF_i | exact okF_r | exact okF_n | exact okF_j | rfl) only [jc_ref, rI_int, rR_ref, rR_null, rJ_long, ckR_ref, ckR_null, ckr_ref, ckr_null, ckW_int, ckW_ref, ckW_null, cI_ok, cR_ok, cR_null, cV_ok, cJ_ok, qH_eq, qD_in, aG_ref, aS_ref, aL_ref, pF_ref, cK_ref, cK_null, zI_lit, zJ_lit, zI_add, zI_sub, zI_mul, zI_neg, zI_eq, zI_lt, zI_le, Int.reduceLT, Int.reduceLE, Int.reduceAdd, Int.reduceSub, Int.reduceMul, Int.reduceNeg, Int.reduceEq, Int.reduceNe, reduceIte, jf_in, pFc_in, aGi, aGb, aSi, aLc_in, cKc_in, nA_in, jm_s1, jm_s2, jm_p1, jm_p2, jm_b, jn_b, jn_s, jn_p, jset_jset, jset_jpush2, ckR_is, ckr_is, rR_is, ckW_is, cR_is, obi2, ckW_int, eq_self, if_true, ref_null, if_false, ne_eq, not_true_eq_false, not_false_eq_true, decide_true, decide_false, decide_not, Bool.true_and, Bool.false_and, Bool.and_true, Bool.and_false, Bool.true_or, Bool.false_or, Bool.or_true, Bool.or_false, Bool.not_true, Bool.not_false, Bool.false_eq_true, bI_t, bI_f, Int.natCast_one, Int.cast_ofNat_Int, Int.natCast_zero, o23_0, o23_1, o23_2, o4_0, o4_1, o4_2, o4_3, o4_4, o4_5, o4_6, n4, o4s_0, o4s_1, o4s_2, o4s_3, o4s_4, o4s_5, o4s_6, cl, i1']
/-- a store becomes as another one -/
theorem c_as (h : SH H a v ins on l1 l2 l3 wl bs) (o : SH H b w ins2 on2 k1 k2 k3 wm bt) (on1 : on2 = 0 ∨ on2 = 1) (hab : a + 8 < b ∨ b + 8 < a) (r1 : RwL H k1) (r2 : RwL H k2) :
    ∃ H2, M2 (d + 3) 4000 [.ref a, .ref b] H = some (.inl (some (.ref a)), H2) ∧ SH H2 a w ins2 on2 k1 k2 l3 wl bs ∧ Fr H H2 (fun q => q = a ∨ q = a + 1 ∨ q = a + 3) ∧ H2.1 = H.1 ∧ H2.2.1 = H.2.1 := by
  obtain ⟨h0, ⟨m1, h1⟩, ⟨m2, h2⟩, ⟨m3, h3⟩, h4, h5, h6, h7⟩ := id h
  obtain ⟨o0, ⟨n1, o1⟩, ⟨n2, o2⟩, ⟨n3, o3⟩, o4', o5, o6, o7⟩ := o
  have f1 : Fr H (jset H a (4, 7, o4 w ins2 on2 (.ref (a + 1)) (.ref (a + 3)) (.ref (a + 5)) (.ref (a + 7)))) (fun q => q = a) := Fr.set rfl
  have g1 := r1.st h (f1.mono fun q _ z => Or.inl z)
  have e1 : b + 1 ≠ a := by omega
  have e2 : b + 3 ≠ a := by omega
  have e3 : b ≠ a := by omega
  have e4 : a + 1 ≠ a := by omega
  have e5 : a + 3 ≠ a := by omega
  have e6 : b + 1 ≠ a + 1 := by omega
  have e7 : b + 3 ≠ a + 1 := by omega
  have e8 : b + 3 ≠ a + 3 := by omega
  have e9 : b ≠ a + 1 := by omega
  have e10 : a ≠ a + 1 := by omega
  have e11 : a + 3 ≠ a + 1 := by omega
  obtain ⟨mc1, c1⟩ := c_copy (d := d) (f := b + 1) (t := a + 1) ((jm_s2 e1).trans o1) (by omega) e6 g1 ((jm_s2 e4).trans h1)
  have f2 : Fr H (jset (jset H a (4, 7, o4 w ins2 on2 (.ref (a + 1)) (.ref (a + 3)) (.ref (a + 5)) (.ref (a + 7)))) (a + 1) (cAL 40 mc1 k1)) (fun q => q = a ∨ q = a + 1) := (f1.mono fun q _ z => Or.inl z).tr (Fr.set (Or.inr rfl))
  have g2 := r2.st h (f2.mono fun q _ z => z.elim Or.inl fun z => Or.inr (Or.inl z))
  obtain ⟨mc2, c2⟩ := c_copy (d := d) (f := b + 3) (t := a + 3) ((jm_s2 e7).trans ((jm_s2 e2).trans o2)) (by omega) e8 g2 ((jm_s2 e11).trans ((jm_s2 e5).trans h2))
  refine ⟨jset (jset (jset H a (4, 7, o4 w ins2 on2 (.ref (a + 1)) (.ref (a + 3)) (.ref (a + 5)) (.ref (a + 7)))) (a + 1) (cAL 40 mc1 k1)) (a + 3) (cAL 40 mc2 k2), ?_, ⟨(jm_s2 (show a ≠ a + 3 by omega)).trans ((jm_s2 e10).trans jm_s1), ⟨mc1, (jm_s2 (show a + 1 ≠ a + 3 by omega)).trans jm_s1⟩, ⟨mc2, jm_s1⟩, ⟨m3, (jm_s2 (show a + 5 ≠ a + 3 by omega)).trans ((jm_s2 (show a + 5 ≠ a + 1 by omega)).trans ((jm_s2 (show a + 5 ≠ a by omega)).trans h3))⟩, (jm_s2 (show a + 7 ≠ a + 3 by omega)).trans ((jm_s2 (show a + 7 ≠ a + 1 by omega)).trans ((jm_s2 (show a + 7 ≠ a by omega)).trans h4)), h5, o6, h7⟩, (f2.mono fun q _ z => z.elim Or.inl fun z => Or.inr (Or.inl z)).tr (Fr.set (Or.inr (Or.inr rfl))), rfl, rfl⟩
  have ok3 : okF 3 (.int (zI on2)) = true := okF_z on1
  have okw : okF 2 w = true := okF_R o6
  rw [Y4000 H rfl (jrecv_in h0 rfl), F4000_0]
  simp (disch := first | assumption | omega | decide | exact okF_i | exact okF_r | exact okF_n | exact okF_j | rfl) only [jc_ref, rI_int, rR_ref, rR_null, rJ_long, ckR_ref, ckR_null, ckr_ref, ckr_null, ckW_int, ckW_ref, ckW_null, cI_ok, cR_ok, cR_null, cV_ok, cJ_ok, qH_eq, qD_in, aG_ref, aS_ref, aL_ref, pF_ref, cK_ref, cK_null, zI_lit, zJ_lit, zI_add, zI_sub, zI_mul, zI_neg, zI_eq, zI_lt, zI_le, Int.reduceLT, Int.reduceLE, Int.reduceAdd, Int.reduceSub, Int.reduceMul, Int.reduceNeg, Int.reduceEq, Int.reduceNe, reduceIte, jf_in, pFc_in, aGi, aGb, aSi, aLc_in, cKc_in, nA_in, jm_s1, jm_s2, jm_p1, jm_p2, jm_b, jn_b, jn_s, jn_p, jset_jset, jset_jpush2, ckR_is, ckr_is, rR_is, ckW_is, cR_is, obi2, ckW_int, eq_self, if_true, ref_null, if_false, ne_eq, not_true_eq_false, not_false_eq_true, decide_true, decide_false, decide_not, Bool.true_and, Bool.false_and, Bool.and_true, Bool.and_false, Bool.true_or, Bool.false_or, Bool.or_true, Bool.or_false, Bool.not_true, Bool.not_false, Bool.false_eq_true, bI_t, bI_f, Int.natCast_one, Int.cast_ofNat_Int, Int.natCast_zero, o23_0, o23_1, o23_2, o4_0, o4_1, o4_2, o4_3, o4_4, o4_5, o4_6, n4, o4s_0, o4s_1, o4s_2, o4s_3, o4s_4, o4s_5, o4s_6, o0, h0, c1, c2]
/-- a store begins over a schema -/
theorem c_sbegin (h : SH H a v ins on l1 l2 l3 wl bs) : ∃ H2, M2 (d + 2) 4001 [.ref a, .ref q] H = some (.inl (some (.ref a)), H2) ∧ SH H2 a (.ref q) 0 0 [] [] l3 wl bs ∧ Fr H H2 (fun q => q = a ∨ q = a + 1 ∨ q = a + 3) ∧ H2.1 = H.1 ∧ H2.2.1 = H.2.1 := by
  obtain ⟨h0, ⟨m1, h1⟩, ⟨m2, h2⟩, ⟨m3, h3⟩, h4, h5, h6, h7⟩ := id h
  have e4 : a + 1 ≠ a := by omega
  have e5 : a + 3 ≠ a := by omega
  have e10 : a ≠ a + 1 := by omega
  have e11 : a + 3 ≠ a + 1 := by omega
  have c1 := h_clear (d := d) (H := jset H a (4, 7, o4 (.ref q) 0 0 (.ref (a + 1)) (.ref (a + 3)) (.ref (a + 5)) (.ref (a + 7)))) ((jm_s2 e4).trans h1) (by omega)
  have c2 := h_clear (d := d) (H := jset (jset H a (4, 7, o4 (.ref q) 0 0 (.ref (a + 1)) (.ref (a + 3)) (.ref (a + 5)) (.ref (a + 7)))) (a + 1) (cAL 40 (m1 + zI 1) [])) ((jm_s2 e11).trans ((jm_s2 e5).trans h2)) (by omega)
  refine ⟨jset (jset (jset H a (4, 7, o4 (.ref q) 0 0 (.ref (a + 1)) (.ref (a + 3)) (.ref (a + 5)) (.ref (a + 7)))) (a + 1) (cAL 40 (m1 + zI 1) [])) (a + 3) (cAL 40 (m2 + zI 1) []), ?_, ⟨(jm_s2 (show a ≠ a + 3 by omega)).trans ((jm_s2 e10).trans jm_s1), ⟨_, (jm_s2 (show a + 1 ≠ a + 3 by omega)).trans jm_s1⟩, ⟨_, jm_s1⟩, ⟨m3, (jm_s2 (show a + 5 ≠ a + 3 by omega)).trans ((jm_s2 (show a + 5 ≠ a + 1 by omega)).trans ((jm_s2 (show a + 5 ≠ a by omega)).trans h3))⟩, (jm_s2 (show a + 7 ≠ a + 3 by omega)).trans ((jm_s2 (show a + 7 ≠ a + 1 by omega)).trans ((jm_s2 (show a + 7 ≠ a by omega)).trans h4)), h5, rfl, h7⟩, (Fr.set (Or.inl rfl)).tr ((Fr.set (Or.inr (Or.inl rfl))).tr (Fr.set (Or.inr (Or.inr rfl)))), rfl, rfl⟩
  have ok3 : okF 3 (.int (zI 0)) = true := rfl
  rw [Y4001 H rfl (jrecv_in h0 rfl), F4001_0]
  simp (disch := first | assumption | omega | decide | exact okF_i | exact okF_r | exact okF_n | exact okF_j | rfl) only [jc_ref, rI_int, rR_ref, rR_null, rJ_long, ckR_ref, ckR_null, ckr_ref, ckr_null, ckW_int, ckW_ref, ckW_null, cI_ok, cR_ok, cR_null, cV_ok, cJ_ok, qH_eq, qD_in, aG_ref, aS_ref, aL_ref, pF_ref, cK_ref, cK_null, zI_lit, zJ_lit, zI_add, zI_sub, zI_mul, zI_neg, zI_eq, zI_lt, zI_le, Int.reduceLT, Int.reduceLE, Int.reduceAdd, Int.reduceSub, Int.reduceMul, Int.reduceNeg, Int.reduceEq, Int.reduceNe, reduceIte, jf_in, pFc_in, aGi, aGb, aSi, aLc_in, cKc_in, nA_in, jm_s1, jm_s2, jm_p1, jm_p2, jm_b, jn_b, jn_s, jn_p, jset_jset, jset_jpush2, ckR_is, ckr_is, rR_is, ckW_is, cR_is, obi2, ckW_int, eq_self, if_true, ref_null, if_false, ne_eq, not_true_eq_false, not_false_eq_true, decide_true, decide_false, decide_not, Bool.true_and, Bool.false_and, Bool.and_true, Bool.and_false, Bool.true_or, Bool.false_or, Bool.or_true, Bool.or_false, Bool.not_true, Bool.not_false, Bool.false_eq_true, bI_t, bI_f, Int.natCast_one, Int.cast_ofNat_Int, Int.natCast_zero, o23_0, o23_1, o23_2, o4_0, o4_1, o4_2, o4_3, o4_4, o4_5, o4_6, n4, o4s_0, o4s_1, o4s_2, o4s_3, o4s_4, o4s_5, o4s_6, h0, c1, c2]
/-- a transaction ends -/
theorem c_closes (h : SH H a v ins on l1 l2 l3 wl bs) : ∃ H2, M2 (d + 2) 4002 [.ref a] H = some (.inl none, H2) ∧ SH H2 a v ins 0 l1 [] l3 wl bs ∧ Fr H H2 (fun q => q = a ∨ q = a + 1 ∨ q = a + 3) ∧ H2.1 = H.1 ∧ H2.2.1 = H.2.1 := by
  obtain ⟨h0, ⟨m1, h1⟩, ⟨m2, h2⟩, ⟨m3, h3⟩, h4, h5, h6, h7⟩ := id h
  have e5 : a + 3 ≠ a := by omega
  have c2 := h_clear (d := d) (H := jset H a (4, 7, o4 v ins 0 (.ref (a + 1)) (.ref (a + 3)) (.ref (a + 5)) (.ref (a + 7)))) ((jm_s2 e5).trans h2) (by omega)
  refine ⟨jset (jset H a (4, 7, o4 v ins 0 (.ref (a + 1)) (.ref (a + 3)) (.ref (a + 5)) (.ref (a + 7)))) (a + 3) (cAL 40 (m2 + zI 1) []), ?_, ⟨(jm_s2 (show a ≠ a + 3 by omega)).trans jm_s1, ⟨m1, (jm_s2 (show a + 1 ≠ a + 3 by omega)).trans ((jm_s2 (show a + 1 ≠ a by omega)).trans h1)⟩, ⟨_, jm_s1⟩, ⟨m3, (jm_s2 (show a + 5 ≠ a + 3 by omega)).trans ((jm_s2 (show a + 5 ≠ a by omega)).trans h3)⟩, (jm_s2 (show a + 7 ≠ a + 3 by omega)).trans ((jm_s2 (show a + 7 ≠ a by omega)).trans h4), h5, h6, h7⟩, (Fr.set (Or.inl rfl)).tr (Fr.set (Or.inr (Or.inr rfl))), rfl, rfl⟩
  have ok3 : okF 3 (.int (zI 0)) = true := rfl
  rw [Y4002 H (jrecv_in h0 rfl), F4002_0]
  simp (disch := first | assumption | omega | decide | exact okF_i | exact okF_r | exact okF_n | exact okF_j | rfl) only [jc_ref, rI_int, rR_ref, rR_null, rJ_long, ckR_ref, ckR_null, ckr_ref, ckr_null, ckW_int, ckW_ref, ckW_null, cI_ok, cR_ok, cR_null, cV_ok, cJ_ok, qH_eq, qD_in, aG_ref, aS_ref, aL_ref, pF_ref, cK_ref, cK_null, zI_lit, zJ_lit, zI_add, zI_sub, zI_mul, zI_neg, zI_eq, zI_lt, zI_le, Int.reduceLT, Int.reduceLE, Int.reduceAdd, Int.reduceSub, Int.reduceMul, Int.reduceNeg, Int.reduceEq, Int.reduceNe, reduceIte, jf_in, pFc_in, aGi, aGb, aSi, aLc_in, cKc_in, nA_in, jm_s1, jm_s2, jm_p1, jm_p2, jm_b, jn_b, jn_s, jn_p, jset_jset, jset_jpush2, ckR_is, ckr_is, rR_is, ckW_is, cR_is, obi2, ckW_int, eq_self, if_true, ref_null, if_false, ne_eq, not_true_eq_false, not_false_eq_true, decide_true, decide_false, decide_not, Bool.true_and, Bool.false_and, Bool.and_true, Bool.and_false, Bool.true_or, Bool.false_or, Bool.or_true, Bool.or_false, Bool.not_true, Bool.not_false, Bool.false_eq_true, bI_t, bI_f, Int.natCast_one, Int.cast_ofNat_Int, Int.natCast_zero, o23_0, o23_1, o23_2, o4_0, o4_1, o4_2, o4_3, o4_4, o4_5, o4_6, n4, o4s_0, o4s_1, o4s_2, o4s_3, o4s_4, o4s_5, o4s_6, h0, c2]
/-- a transaction begins -/
theorem c_opens (h : SH H a v ins on l1 l2 l3 wl bs) (r1 : RwL H l1) : ∃ H2, M2 (d + 3) 4009 [.ref a] H = some (.inl none, H2) ∧ SH H2 a v ins 1 l1 l1 l3 wl bs ∧ Fr H H2 (fun q => q = a ∨ q = a + 1 ∨ q = a + 3) ∧ H2.1 = H.1 ∧ H2.2.1 = H.2.1 := by
  obtain ⟨h0, ⟨m1, h1⟩, ⟨m2, h2⟩, ⟨m3, h3⟩, h4, h5, h6, h7⟩ := id h
  have e4 : a + 1 ≠ a := by omega
  have e5 : a + 3 ≠ a := by omega
  have g1 := r1.st (H2 := jset H a (4, 7, o4 v ins 1 (.ref (a + 1)) (.ref (a + 3)) (.ref (a + 5)) (.ref (a + 7)))) h (Fr.set (Or.inl rfl))
  obtain ⟨mc, c2⟩ := c_copy (d := d) (f := a + 1) (t := a + 3) ((jm_s2 e4).trans h1) (by omega) (by omega) g1 ((jm_s2 e5).trans h2)
  refine ⟨jset (jset H a (4, 7, o4 v ins 1 (.ref (a + 1)) (.ref (a + 3)) (.ref (a + 5)) (.ref (a + 7)))) (a + 3) (cAL 40 mc l1), ?_, ⟨(jm_s2 (show a ≠ a + 3 by omega)).trans jm_s1, ⟨m1, (jm_s2 (show a + 1 ≠ a + 3 by omega)).trans ((jm_s2 e4).trans h1)⟩, ⟨_, jm_s1⟩, ⟨m3, (jm_s2 (show a + 5 ≠ a + 3 by omega)).trans ((jm_s2 (show a + 5 ≠ a by omega)).trans h3)⟩, (jm_s2 (show a + 7 ≠ a + 3 by omega)).trans ((jm_s2 (show a + 7 ≠ a by omega)).trans h4), h5, h6, h7⟩, (Fr.set (Or.inl rfl)).tr (Fr.set (Or.inr (Or.inr rfl))), rfl, rfl⟩
  have ok3 : okF 3 (.int (zI 1)) = true := rfl
  rw [Y4009 H (jrecv_in h0 rfl), F4009_0]
  simp (disch := first | assumption | omega | decide | exact okF_i | exact okF_r | exact okF_n | exact okF_j | rfl) only [jc_ref, rI_int, rR_ref, rR_null, rJ_long, ckR_ref, ckR_null, ckr_ref, ckr_null, ckW_int, ckW_ref, ckW_null, cI_ok, cR_ok, cR_null, cV_ok, cJ_ok, qH_eq, qD_in, aG_ref, aS_ref, aL_ref, pF_ref, cK_ref, cK_null, zI_lit, zJ_lit, zI_add, zI_sub, zI_mul, zI_neg, zI_eq, zI_lt, zI_le, Int.reduceLT, Int.reduceLE, Int.reduceAdd, Int.reduceSub, Int.reduceMul, Int.reduceNeg, Int.reduceEq, Int.reduceNe, reduceIte, jf_in, pFc_in, aGi, aGb, aSi, aLc_in, cKc_in, nA_in, jm_s1, jm_s2, jm_p1, jm_p2, jm_b, jn_b, jn_s, jn_p, jset_jset, jset_jpush2, ckR_is, ckr_is, rR_is, ckW_is, cR_is, obi2, ckW_int, eq_self, if_true, ref_null, if_false, ne_eq, not_true_eq_false, not_false_eq_true, decide_true, decide_false, decide_not, Bool.true_and, Bool.false_and, Bool.and_true, Bool.and_false, Bool.true_or, Bool.false_or, Bool.or_true, Bool.or_false, Bool.not_true, Bool.not_false, Bool.false_eq_true, bI_t, bI_f, Int.natCast_one, Int.cast_ofNat_Int, Int.natCast_zero, o23_0, o23_1, o23_2, o4_0, o4_1, o4_2, o4_3, o4_4, o4_5, o4_6, n4, o4s_0, o4s_1, o4s_2, o4s_3, o4s_4, o4s_5, o4s_6, h0, c2]
/-- it goes back -/
theorem c_goesBack (h : SH H a v ins on l1 l2 l3 wl bs) (r2 : RwL H l2) : ∃ H2, M2 (d + 3) 4005 [.ref a] H = some (.inl none, H2) ∧ SH H2 a v ins 0 l2 [] l3 wl bs ∧ Fr H H2 (fun q => q = a ∨ q = a + 1 ∨ q = a + 3) ∧ H2.1 = H.1 ∧ H2.2.1 = H.2.1 := by
  obtain ⟨h0, ⟨m1, h1⟩, ⟨m2, h2⟩, ⟨m3, h3⟩, h4, h5, h6, h7⟩ := id h
  obtain ⟨mc, c1⟩ := c_copy (d := d) (f := a + 3) (t := a + 1) h2 (by omega) (by omega) r2 h1
  have hs : SH (jset H (a + 1) (cAL 40 mc l2)) a v ins on l2 l2 l3 wl bs := ⟨(jm_s2 (show a ≠ a + 1 by omega)).trans h0, ⟨_, jm_s1⟩, ⟨m2, (jm_s2 (show a + 3 ≠ a + 1 by omega)).trans h2⟩, ⟨m3, (jm_s2 (show a + 5 ≠ a + 1 by omega)).trans h3⟩, (jm_s2 (show a + 7 ≠ a + 1 by omega)).trans h4, h5, h6, h7⟩
  obtain ⟨H2, x1, x2, x3, x4, x5⟩ := c_closes (d := d) hs
  refine ⟨H2, ?_, x2, (Fr.set (Or.inr (Or.inl rfl))).tr x3, x4, x5⟩
  rw [Y4005 H (jrecv_in h0 rfl), F4005_0]
  simp (disch := first | assumption | omega | decide | exact okF_i | exact okF_r | exact okF_n | exact okF_j | rfl) only [jc_ref, rI_int, rR_ref, rR_null, rJ_long, ckR_ref, ckR_null, ckr_ref, ckr_null, ckW_int, ckW_ref, ckW_null, cI_ok, cR_ok, cR_null, cV_ok, cJ_ok, qH_eq, qD_in, aG_ref, aS_ref, aL_ref, pF_ref, cK_ref, cK_null, zI_lit, zJ_lit, zI_add, zI_sub, zI_mul, zI_neg, zI_eq, zI_lt, zI_le, Int.reduceLT, Int.reduceLE, Int.reduceAdd, Int.reduceSub, Int.reduceMul, Int.reduceNeg, Int.reduceEq, Int.reduceNe, reduceIte, jf_in, pFc_in, aGi, aGb, aSi, aLc_in, cKc_in, nA_in, jm_s1, jm_s2, jm_p1, jm_p2, jm_b, jn_b, jn_s, jn_p, jset_jset, jset_jpush2, ckR_is, ckr_is, rR_is, ckW_is, cR_is, obi2, ckW_int, eq_self, if_true, ref_null, if_false, ne_eq, not_true_eq_false, not_false_eq_true, decide_true, decide_false, decide_not, Bool.true_and, Bool.false_and, Bool.and_true, Bool.and_false, Bool.true_or, Bool.false_or, Bool.or_true, Bool.or_false, Bool.not_true, Bool.not_false, Bool.false_eq_true, bI_t, bI_f, Int.natCast_one, Int.cast_ofNat_Int, Int.natCast_zero, o23_0, o23_1, o23_2, o4_0, o4_1, o4_2, o4_3, o4_4, o4_5, o4_6, n4, o4s_0, o4s_1, o4s_2, o4s_3, o4s_4, o4s_5, o4s_6, h0, c1, x1]
end
