/-! what is set is wanted -/
-- jc_ref, rI_int, rR_ref, rR_null, rJ_long, ckR_ref, ckR_null, ckr_ref, ckr_null, ckW_int, ckW_ref, ckW_null, cI_ok, cR_ok, cR_null, cV_ok, cJ_ok, qH_eq, qD_in, aG_ref, aS_ref, aL_ref, pF_ref, cK_ref, cK_null, zI_lit, zJ_lit, zI_add, zI_sub, zI_mul, zI_neg, zI_eq, zI_lt, zI_le, Int.reduceLT, Int.reduceLE, Int.reduceAdd, Int.reduceSub, Int.reduceMul, Int.reduceNeg, Int.reduceEq, Int.reduceNe, reduceIte, jf_in, pFc_in, aGi, aGb, aSi, aLc_in, cKc_in, nA_in, jm_s1, jm_s2, jm_p1, jm_p2, jm_b, jn_b, jn_s, jn_p, jset_jset, jset_jpush2, ckR_is, ckr_is, rR_is, ckW_is, cR_is, obi2, ckW_int, eq_self, if_true, ref_null, if_false, ne_eq, not_true_eq_false, not_false_eq_true, decide_true, decide_false, decide_not, Bool.true_and, Bool.false_and, Bool.and_true, Bool.and_false, Bool.true_or, Bool.false_or, Bool.or_true, Bool.or_false, Bool.not_true, Bool.not_false, Bool.false_eq_true, bI_t, bI_f, Int.natCast_one, Int.cast_ofNat_Int, Int.natCast_zero, o23_0, o23_1, o23_2, o12_0, o12_1, o13_0, o13_1, o13_2, o13_3, o13_4, o13_5, o13_6, o14_0, o14_1, o14_2, o14_3, o14_4, o14_5, o3_0, o3_1, o3_2, o3_3, o3_4, o11_0, o11_1, o11_2, o11_3, o4_0, o4_1, o4_2, o4_3, o4_4, o4_5, o4_6, o5_0, o5_1, o5_2, o5_3, o5_4, o5_5, n5, o5s_0, o5s_1, o5s_2, o5s_3, o5s_4, o5s_5, o17_0, o17_1, o19_0, o19_1, o20_0, o20_1, o20_2, o21_0, o21_1, o21_2, o21_3 = jc_ref, rI_int, rR_ref, rR_null, rJ_long, ckR_ref, ckR_null, ckr_ref, ckr_null, ckW_int, ckW_ref, ckW_null, cI_ok, cR_ok, cR_null, cV_ok, cJ_ok, qH_eq, qD_in, aG_ref, aS_ref, aL_ref, pF_ref, cK_ref, cK_null, zI_lit, zJ_lit, zI_add, zI_sub, zI_mul, zI_neg, zI_eq, zI_lt, zI_le, Int.reduceLT, Int.reduceLE, Int.reduceAdd, Int.reduceSub, Int.reduceMul, Int.reduceNeg, Int.reduceEq, Int.reduceNe, reduceIte, jf_in, pFc_in, aGi, aGb, aSi, aLc_in, cKc_in, nA_in, jm_s1, jm_s2, jm_p1, jm_p2, jm_b, jn_b, jn_s, jn_p, jset_jset, jset_jpush2, ckR_is, ckr_is, rR_is, ckW_is, cR_is, obi2, ckW_int, eq_self, if_true, ref_null, if_false, ne_eq, not_true_eq_false, not_false_eq_true, decide_true, decide_false, decide_not, Bool.true_and, Bool.false_and, Bool.and_true, Bool.and_false, Bool.true_or, Bool.false_or, Bool.or_true, Bool.or_false, Bool.not_true, Bool.not_false, Bool.false_eq_true, bI_t, bI_f, Int.natCast_one, Int.cast_ofNat_Int, Int.natCast_zero, o23_0, o23_1, o23_2, o12_0, o12_1, o13_0, o13_1, o13_2, o13_3, o13_4, o13_5, o13_6, o14_0, o14_1, o14_2, o14_3, o14_4, o14_5, o3_0, o3_1, o3_2, o3_3, o3_4, o11_0, o11_1, o11_2, o11_3, o4_0, o4_1, o4_2, o4_3, o4_4, o4_5, o4_6, o5_0, o5_1, o5_2, o5_3, o5_4, o5_5, n5, o5s_0, o5s_1, o5s_2, o5s_3, o5s_4, o5s_5, o17_0, o17_1, o19_0, o19_1, o20_0, o20_1, o20_2, o21_0, o21_1, o21_2, o21_3
def setL (L : Int → Int) (to : Int) : List Int → WS → WS
  | [], w => w
  | x :: s, w => setL L to s (setW L to x (L (to + 2)).toNat 0 w)
section
variable {F : Nat → Option Cl} {d : Nat} {H H2 : AH} {a b e p q fb pb qd it hd wb rb we tg ce ve : Nat} {r t c k n f v x to : Int} {cs S L nm : Int → Int} {ra : Int → Nat} {wl : Nat} {g : Nat → Bool} {w : WS} {sp : Int → Int} {P : Nat → Prop} {Q : List Int}
theorem se_28 {m : Nat} {gc gv : Int → Int} (hb : F b = some (21, 4, o21 (L (to + 1)) (.ref we) (.ref ce) (.ref ve))) (hc : F ce = some (1000, m, aI gc)) (hv : F ve = some (1000, m, aI gv)) (hm : (m : Int) = L (to + 2)) (hg : ∀ k : Int, 0 ≤ k → k < m → gc k = L (to + 3 + 2 * k) ∧ gv k = L (to + 4 + 2 * k)) (hS : SeW S L to) (c4 : S (4 + L (to + 1)) ≤ 4) (x0 : 0 ≤ x) (x1 : x < 99) (x2 : S (150 + x) = 1) : ∀ (j : Nat) (k : Int) (H : AH) (w : WS), PlW F H q a p S nm ra wl g w sp → 0 ≤ k → k + j = m →
    ∃ (H2 : AH), G2 (d + 3) 21000 28 [.ref b, .ref p, .ref qd, .ref it, .ref (ra x), .int (zI k)] [] H = G2 (d + 3) 21000 5 [.ref b, .ref p, .ref qd, .ref it, .ref (ra x), .int (zI m)] [] H2 ∧ PlW F H2 q a p S nm ra wl g (setW L to x j k w) sp ∧ Fr H H2 (PlP p) ∧ H2.1 = H.1 ∧ H2.2.1 = H.2.1 := by
  obtain ⟨⟨n0, n2⟩, hS⟩ := hS
  intro j
  induction j with
  | zero =>
    intro k H w h k0 hk
    have hb' := h.1.m hb
    have hc' := h.1.m hc
    refine ⟨H, ?_, h, Fr.rf, rfl, rfl⟩
    have : k = m := by omega
    subst this
    rw [F21000_28]
    simp (disch := first | assumption | omega | decide | exact okF_i | exact okF_r | exact okF_n | exact okF_j | rfl) only [jc_ref, rI_int, rR_ref, rR_null, rJ_long, ckR_ref, ckR_null, ckr_ref, ckr_null, ckW_int, ckW_ref, ckW_null, cI_ok, cR_ok, cR_null, cV_ok, cJ_ok, qH_eq, qD_in, aG_ref, aS_ref, aL_ref, pF_ref, cK_ref, cK_null, zI_lit, zJ_lit, zI_add, zI_sub, zI_mul, zI_neg, zI_eq, zI_lt, zI_le, Int.reduceLT, Int.reduceLE, Int.reduceAdd, Int.reduceSub, Int.reduceMul, Int.reduceNeg, Int.reduceEq, Int.reduceNe, reduceIte, jf_in, pFc_in, aGi, aGb, aSi, aLc_in, cKc_in, nA_in, jm_s1, jm_s2, jm_p1, jm_p2, jm_b, jn_b, jn_s, jn_p, jset_jset, jset_jpush2, ckR_is, ckr_is, rR_is, ckW_is, cR_is, obi2, ckW_int, eq_self, if_true, ref_null, if_false, ne_eq, not_true_eq_false, not_false_eq_true, decide_true, decide_false, decide_not, Bool.true_and, Bool.false_and, Bool.and_true, Bool.and_false, Bool.true_or, Bool.false_or, Bool.or_true, Bool.or_false, Bool.not_true, Bool.not_false, Bool.false_eq_true, bI_t, bI_f, Int.natCast_one, Int.cast_ofNat_Int, Int.natCast_zero, o23_0, o23_1, o23_2, o12_0, o12_1, o13_0, o13_1, o13_2, o13_3, o13_4, o13_5, o13_6, o14_0, o14_1, o14_2, o14_3, o14_4, o14_5, o3_0, o3_1, o3_2, o3_3, o3_4, o11_0, o11_1, o11_2, o11_3, o4_0, o4_1, o4_2, o4_3, o4_4, o4_5, o4_6, o5_0, o5_1, o5_2, o5_3, o5_4, o5_5, n5, o5s_0, o5s_1, o5s_2, o5s_3, o5s_4, o5s_5, o17_0, o17_1, o19_0, o19_1, o20_0, o20_1, o20_2, o21_0, o21_1, o21_2, o21_3, hb', hc']
    rw [if_pos (Int.le_refl _)]
  | succ j ih =>
    intro k H w h k0 hk
    have hb' := h.1.m hb
    have hc' := h.1.m hc
    have hv' := h.1.m hv
    obtain ⟨xe, xg, m1, m2, m3⟩ := h.row x0 x1 x2
    have m1' := h.1.m m1
    obtain ⟨g1, g2⟩ := hg k k0 (by omega)
    obtain ⟨s1, s2⟩ := hS k k0 (by omega)
    obtain ⟨H1, z1, z2, z3, z4, z5⟩ := p_wants (d := d + 1) h.2.2.2.2.1 m1' x0 x1 s1.1 (by omega) s2.1 s2.2
    have h1 := h.st z2 (z3.mono fun _ _ z => PlP.of03 z)
    obtain ⟨H2, i1, i2, i3, i4, i5⟩ := ih (k + 1) H1 _ h1 (by omega) (by omega)
    refine ⟨H2, ?_, i2, (z3.mono fun _ _ z => PlP.of03 z).tr i3, i4.trans z4, i5.trans z5⟩
    rw [← i1]
    conv => lhs; rw [F21000_28]
    simp (disch := first | assumption | omega | decide | exact okF_i | exact okF_r | exact okF_n | exact okF_j | rfl) only [jc_ref, rI_int, rR_ref, rR_null, rJ_long, ckR_ref, ckR_null, ckr_ref, ckr_null, ckW_int, ckW_ref, ckW_null, cI_ok, cR_ok, cR_null, cV_ok, cJ_ok, qH_eq, qD_in, aG_ref, aS_ref, aL_ref, pF_ref, cK_ref, cK_null, zI_lit, zJ_lit, zI_add, zI_sub, zI_mul, zI_neg, zI_eq, zI_lt, zI_le, Int.reduceLT, Int.reduceLE, Int.reduceAdd, Int.reduceSub, Int.reduceMul, Int.reduceNeg, Int.reduceEq, Int.reduceNe, reduceIte, jf_in, pFc_in, aGi, aGb, aSi, aLc_in, cKc_in, nA_in, jm_s1, jm_s2, jm_p1, jm_p2, jm_b, jn_b, jn_s, jn_p, jset_jset, jset_jpush2, ckR_is, ckr_is, rR_is, ckW_is, cR_is, obi2, ckW_int, eq_self, if_true, ref_null, if_false, ne_eq, not_true_eq_false, not_false_eq_true, decide_true, decide_false, decide_not, Bool.true_and, Bool.false_and, Bool.and_true, Bool.and_false, Bool.true_or, Bool.false_or, Bool.or_true, Bool.or_false, Bool.not_true, Bool.not_false, Bool.false_eq_true, bI_t, bI_f, Int.natCast_one, Int.cast_ofNat_Int, Int.natCast_zero, o23_0, o23_1, o23_2, o12_0, o12_1, o13_0, o13_1, o13_2, o13_3, o13_4, o13_5, o13_6, o14_0, o14_1, o14_2, o14_3, o14_4, o14_5, o3_0, o3_1, o3_2, o3_3, o3_4, o11_0, o11_1, o11_2, o11_3, o4_0, o4_1, o4_2, o4_3, o4_4, o4_5, o4_6, o5_0, o5_1, o5_2, o5_3, o5_4, o5_5, n5, o5s_0, o5s_1, o5s_2, o5s_3, o5s_4, o5s_5, o17_0, o17_1, o19_0, o19_1, o20_0, o20_1, o20_2, o21_0, o21_1, o21_2, o21_3, hb', hc', hv', g1, g2, z1]
    rw [if_neg (by omega)]
theorem se_5 {m cap : Nat} {gc gv : Int → Int} (hb : F b = some (21, 4, o21 (L (to + 1)) (.ref we) (.ref ce) (.ref ve))) (hc : F ce = some (1000, m, aI gc)) (hv : F ve = some (1000, m, aI gv)) (hm : (m : Int) = L (to + 2)) (hg : ∀ k : Int, 0 ≤ k → k < m → gc k = L (to + 3 + 2 * k) ∧ gv k = L (to + 4 + 2 * k)) (hS : SeW S L to) (c4 : S (4 + L (to + 1)) ≤ 4) {A : List Int} (hA : ∀ x ∈ A, AlS S x) (hhd : hd < cap) (hcp : cap < 1000) (hl : A.length < cap) (hqd : ¬ PlP p qd) (hit : F it = none ∧ ¬ StP a it ∧ ¬ PlP p it) (hne : it ≠ qd) : ∀ (s : List Int) (k : Nat) (H : AH) (w : WS) (lr : Int) (v4 v5 : Value), PlW F H q a p S nm ra wl g w sp → A.drop k = s → k ≤ A.length → jm H qd = some (cDQ cap hd (A.map fun r => .ref (ra r))) → jm H it = some (64, 4, oDt ((hd + k) % cap : Nat) (A.length - k : Nat) lr qd) → qd < H.1 → it < H.1 →
    ∃ (H2 : AH), G2 (d + 3) 21000 5 [.ref b, .ref p, .ref qd, .ref it, v4, v5] [] H = some (.inl none, H2) ∧ PlW F H2 q a p S nm ra wl g (setL L to s w) sp ∧ Fr H H2 (fun z => PlP p z ∨ z = it) ∧ H2.1 = H.1 ∧ H2.2.1 = H.2.1 := by
  intro s
  induction s with
  | nil =>
    intro k H w lr v4 v5 h hk hkl mq mi lq li
    have : A.length ≤ k := by
      have := congrArg List.length hk
      simp at this
      omega
    have dh := h_dhas (d := d + 2) mi (by omega) (by have := Nat.mod_lt (hd + k) (show 0 < cap by omega); omega) (by omega) (by omega)
    have m1 : MvH (d + 3) 9102 [.ref it] H = M2 (d + 3) 64000 [.ref it] H := by simp only [MvH, mi]; rfl
    refine ⟨H, ?_, h, Fr.rf, rfl, rfl⟩
    have : decide ((0 : Int) < ((A.length - k : Nat) : Int)) = false := decide_eq_false (by omega)
    rw [this] at dh
    rw [F21000_5]
    simp (disch := first | assumption | omega | decide | exact okF_i | exact okF_r | exact okF_n | exact okF_j | rfl) only [jc_ref, rI_int, rR_ref, rR_null, rJ_long, ckR_ref, ckR_null, ckr_ref, ckr_null, ckW_int, ckW_ref, ckW_null, cI_ok, cR_ok, cR_null, cV_ok, cJ_ok, qH_eq, qD_in, aG_ref, aS_ref, aL_ref, pF_ref, cK_ref, cK_null, zI_lit, zJ_lit, zI_add, zI_sub, zI_mul, zI_neg, zI_eq, zI_lt, zI_le, Int.reduceLT, Int.reduceLE, Int.reduceAdd, Int.reduceSub, Int.reduceMul, Int.reduceNeg, Int.reduceEq, Int.reduceNe, reduceIte, jf_in, pFc_in, aGi, aGb, aSi, aLc_in, cKc_in, nA_in, jm_s1, jm_s2, jm_p1, jm_p2, jm_b, jn_b, jn_s, jn_p, jset_jset, jset_jpush2, ckR_is, ckr_is, rR_is, ckW_is, cR_is, obi2, ckW_int, eq_self, if_true, ref_null, if_false, ne_eq, not_true_eq_false, not_false_eq_true, decide_true, decide_false, decide_not, Bool.true_and, Bool.false_and, Bool.and_true, Bool.and_false, Bool.true_or, Bool.false_or, Bool.or_true, Bool.or_false, Bool.not_true, Bool.not_false, Bool.false_eq_true, bI_t, bI_f, Int.natCast_one, Int.cast_ofNat_Int, Int.natCast_zero, o23_0, o23_1, o23_2, o12_0, o12_1, o13_0, o13_1, o13_2, o13_3, o13_4, o13_5, o13_6, o14_0, o14_1, o14_2, o14_3, o14_4, o14_5, o3_0, o3_1, o3_2, o3_3, o3_4, o11_0, o11_1, o11_2, o11_3, o4_0, o4_1, o4_2, o4_3, o4_4, o4_5, o4_6, o5_0, o5_1, o5_2, o5_3, o5_4, o5_5, n5, o5s_0, o5s_1, o5s_2, o5s_3, o5s_4, o5s_5, o17_0, o17_1, o19_0, o19_1, o20_0, o20_1, o20_2, o21_0, o21_1, o21_2, o21_3, m1, dh]
  | cons x s ih =>
    intro k H w lr v4 v5 h hk hkl mq mi lq li
    have hkn : k < A.length := by
      by_cases c : k < A.length
      · exact c
      · rw [List.drop_eq_nil_of_le (by omega)] at hk; cases hk
    rw [List.drop_eq_getElem_cons hkn] at hk
    simp only [List.cons.injEq] at hk
    obtain ⟨x0, x1, x2⟩ := hA x (hk.1 ▸ List.getElem_mem hkn)
    have hml : (A.map fun r => (Value.ref (ra r) : Value)).length = A.length := List.length_map _
    have hgd : (A.map fun r => (Value.ref (ra r) : Value)).getD k .null = .ref (ra x) := by
      rw [List.getD_eq_getElem?_getD, List.getElem?_map, List.getElem?_eq_getElem hkn, hk.1]; rfl
    obtain ⟨xe, xg, m1, m2, m3⟩ := h.row x0 x1 x2
    have dh := h_dhas (d := d + 2) mi (by omega) (by have := Nat.mod_lt (hd + k) (show 0 < cap by omega); omega) (by omega) (by omega)
    rw [decide_eq_true (show (0 : Int) < ((A.length - k : Nat) : Int) by omega)] at dh
    have dn := h_dnext (d := d + 2) (q := it) (k := k) (lr := lr) mq (by omega) (by rw [hml]; exact hkn) (by rw [hml]; exact hl) (by rw [hml]; exact mi)
    rw [hgd, hml] at dn
    have e1 : MvH (d + 3) 9102 [.ref it] H = M2 (d + 3) 64000 [.ref it] H := by simp only [MvH, mi]; rfl
    have e2 : MvH (d + 3) 9103 [.ref it] H = M2 (d + 3) 64001 [.ref it] H := by simp only [MvH, mi]; rfl
    obtain ⟨HI, hHI⟩ : ∃ HI, HI = jset H it (64, 4, oDt ((hd + (k + 1)) % cap : Nat) (A.length - (k + 1) : Nat) ((hd + k) % cap : Nat) qd) := ⟨_, rfl⟩
    have fI : Fr H HI (fun x => x = it) := by rw [hHI]; exact Fr.set rfl
    have hI : PlW F HI q a p S nm ra wl g w sp := h.ot fI fun y hy => by rw [hy]; exact hit
    have HI1 : HI.1 = H.1 := by rw [hHI]; rfl
    have HI2 : HI.2.1 = H.2.1 := by rw [hHI]; rfl
    have m1I := hI.1.m m1
    obtain ⟨H1, a1, a2, a3, a4, a5⟩ := se_28 (d := d) (qd := qd) (it := it) hb hc hv hm hg hS c4 x0 x1 x2 m 0 HI w hI (Int.le_refl _) (by omega)
    have mq1 : jm H1 qd = some (cDQ cap hd (A.map fun r => .ref (ra r))) := (a3.2.2 qd (by omega) hqd).trans ((fI.2.2 qd lq (Ne.symm hne)).trans mq)
    have mi1 : jm H1 it = some (64, 4, oDt ((hd + (k + 1)) % cap : Nat) (A.length - (k + 1) : Nat) ((hd + k) % cap : Nat) qd) := (a3.2.2 it (by omega) hit.2.2).trans (by rw [hHI]; exact jm_s1)
    obtain ⟨H2, i1, i2, i3, i4, i5⟩ := ih (k + 1) H1 _ ((hd + k) % cap : Nat) (.ref (ra x)) (.int (zI m)) a2 hk.2 (by omega) mq1 mi1 (by omega) (by omega)
    have es : setL L to (x :: s) w = setL L to s (setW L to x m 0 w) := by
      show setL L to s (setW L to x (L (to + 2)).toNat 0 w) = _
      rw [show (L (to + 2)).toNat = m by omega]
    rw [es]
    refine ⟨H2, ?_, i2, (fI.mono fun _ _ z => Or.inr z).tr ((a3.mono fun _ _ z => Or.inl z).tr i3), by omega, by omega⟩
    rw [← i1, ← a1, F21000_5]
    simp (disch := first | assumption | omega | decide | exact okF_i | exact okF_r | exact okF_n | exact okF_j | rfl) only [jc_ref, rI_int, rR_ref, rR_null, rJ_long, ckR_ref, ckR_null, ckr_ref, ckr_null, ckW_int, ckW_ref, ckW_null, cI_ok, cR_ok, cR_null, cV_ok, cJ_ok, qH_eq, qD_in, aG_ref, aS_ref, aL_ref, pF_ref, cK_ref, cK_null, zI_lit, zJ_lit, zI_add, zI_sub, zI_mul, zI_neg, zI_eq, zI_lt, zI_le, Int.reduceLT, Int.reduceLE, Int.reduceAdd, Int.reduceSub, Int.reduceMul, Int.reduceNeg, Int.reduceEq, Int.reduceNe, reduceIte, jf_in, pFc_in, aGi, aGb, aSi, aLc_in, cKc_in, nA_in, jm_s1, jm_s2, jm_p1, jm_p2, jm_b, jn_b, jn_s, jn_p, jset_jset, jset_jpush2, ckR_is, ckr_is, rR_is, ckW_is, cR_is, obi2, ckW_int, eq_self, if_true, ref_null, if_false, ne_eq, not_true_eq_false, not_false_eq_true, decide_true, decide_false, decide_not, Bool.true_and, Bool.false_and, Bool.and_true, Bool.and_false, Bool.true_or, Bool.false_or, Bool.or_true, Bool.or_false, Bool.not_true, Bool.not_false, Bool.false_eq_true, bI_t, bI_f, Int.natCast_one, Int.cast_ofNat_Int, Int.natCast_zero, o23_0, o23_1, o23_2, o12_0, o12_1, o13_0, o13_1, o13_2, o13_3, o13_4, o13_5, o13_6, o14_0, o14_1, o14_2, o14_3, o14_4, o14_5, o3_0, o3_1, o3_2, o3_3, o3_4, o11_0, o11_1, o11_2, o11_3, o4_0, o4_1, o4_2, o4_3, o4_4, o4_5, o4_6, o5_0, o5_1, o5_2, o5_3, o5_4, o5_5, n5, o5s_0, o5s_1, o5s_2, o5s_3, o5s_4, o5s_5, o17_0, o17_1, o19_0, o19_1, o20_0, o20_1, o20_2, o21_0, o21_1, o21_2, o21_3, e1, dh, e2, dn, ← hHI, m1I]
/-- what is set is wanted -/
theorem p_sets {m cap : Nat} {gc gv : Int → Int} (hb : F b = some (21, 4, o21 (L (to + 1)) (.ref we) (.ref ce) (.ref ve))) (hc : F ce = some (1000, m, aI gc)) (hv : F ve = some (1000, m, aI gv)) (hm : (m : Int) = L (to + 2)) (hg : ∀ k : Int, 0 ≤ k → k < m → gc k = L (to + 3 + 2 * k) ∧ gv k = L (to + 4 + 2 * k)) (hS : SeW S L to) (c4 : S (4 + L (to + 1)) ≤ 4) {A : List Int} (hA : ∀ x ∈ A, AlS S x) (h : PlW F H q a p S nm ra wl g w sp) (hD : DqH H qd cap ra A) (lq : qd < H.1) (hqd : ¬ PlP p qd) :
    ∃ (H2 : AH), M2 (d + 4) 21000 [.ref b, .ref p, .ref qd] H = some (.inl none, H2) ∧ PlW F H2 q a p S nm ra wl g (setL L to A w) sp ∧ Fr H H2 (PlP p) ∧ H2.1 = H.1 + 1 ∧ H2.2.1 = H.2.1 + 4 := by
  obtain ⟨⟨hd, hhd, mq⟩, hcp, hl⟩ := id hD
  have p9 := h.2.2.2.2.1.2.2.2.2.1
  obtain ⟨ins, on, l1, l2, l3, wm, bs, ⟨-, -, -, -, -, s9, -⟩, -⟩ := id h.2.2.2.1
  have it0 := h_qiter (d := d + 2) mq (by omega)
  have ml : (A.map fun r => (Value.ref (ra r) : Value)).length = A.length := List.length_map _
  rw [ml] at it0
  have hit : F H.1 = none ∧ ¬ StP a H.1 ∧ ¬ PlP p H.1 := by
    refine ⟨?_, by unfold StP; omega, by unfold PlP; omega⟩
    cases hh : F H.1 with
    | none => rfl
    | some c => exact absurd (h.1.lt hh) (Nat.lt_irrefl _)
  obtain ⟨HI, hHI⟩ : ∃ HI, HI = jpush H (64, 4, oDt (hd : Int) (A.length : Nat) (-1) qd) := ⟨_, rfl⟩
  have fI : Fr H HI (fun _ => False) := by rw [hHI]; exact Fr.push
  have hI : PlW F HI q a p S nm ra wl g w sp := h.ot fI fun _ z => z.elim
  have HI1 : HI.1 = H.1 + 1 := by rw [hHI]; rfl
  have HI2 : HI.2.1 = H.2.1 + 4 := by rw [hHI]; rfl
  have miI : jm HI H.1 = some (64, 4, oDt ((hd + 0) % cap : Nat) (A.length - 0 : Nat) (-1) qd) := by
    rw [hHI, jm_p1, Nat.add_zero, Nat.mod_eq_of_lt hhd, Nat.sub_zero]
  obtain ⟨H2, i1, i2, i3, i4, i5⟩ := se_5 (d := d) (qd := qd) (it := H.1) hb hc hv hm hg hS c4 hA hhd (by omega) hl hqd hit (show H.1 ≠ qd by omega) A 0 HI w (-1) jno jno hI rfl (Nat.zero_le _) ((fI.2.2 qd lq id).trans mq) miI (by omega) (by omega)
  refine ⟨H2, ?_, i2, (fI.mono fun _ _ z => z.elim).new (i3.mono fun z _ hz => hz.elim Or.inl fun hz => Or.inr (by omega)), by omega, by omega⟩
  have hb' := h.1.m hb
  rw [Y21000 H rfl rfl (jrecv_in hb' rfl), F21000_0]
  simp (disch := first | assumption | omega | decide | exact okF_i | exact okF_r | exact okF_n | exact okF_j | rfl) only [jc_ref, rI_int, rR_ref, rR_null, rJ_long, ckR_ref, ckR_null, ckr_ref, ckr_null, ckW_int, ckW_ref, ckW_null, cI_ok, cR_ok, cR_null, cV_ok, cJ_ok, qH_eq, qD_in, aG_ref, aS_ref, aL_ref, pF_ref, cK_ref, cK_null, zI_lit, zJ_lit, zI_add, zI_sub, zI_mul, zI_neg, zI_eq, zI_lt, zI_le, Int.reduceLT, Int.reduceLE, Int.reduceAdd, Int.reduceSub, Int.reduceMul, Int.reduceNeg, Int.reduceEq, Int.reduceNe, reduceIte, jf_in, pFc_in, aGi, aGb, aSi, aLc_in, cKc_in, nA_in, jm_s1, jm_s2, jm_p1, jm_p2, jm_b, jn_b, jn_s, jn_p, jset_jset, jset_jpush2, ckR_is, ckr_is, rR_is, ckW_is, cR_is, obi2, ckW_int, eq_self, if_true, ref_null, if_false, ne_eq, not_true_eq_false, not_false_eq_true, decide_true, decide_false, decide_not, Bool.true_and, Bool.false_and, Bool.and_true, Bool.and_false, Bool.true_or, Bool.false_or, Bool.or_true, Bool.or_false, Bool.not_true, Bool.not_false, Bool.false_eq_true, bI_t, bI_f, Int.natCast_one, Int.cast_ofNat_Int, Int.natCast_zero, o23_0, o23_1, o23_2, o12_0, o12_1, o13_0, o13_1, o13_2, o13_3, o13_4, o13_5, o13_6, o14_0, o14_1, o14_2, o14_3, o14_4, o14_5, o3_0, o3_1, o3_2, o3_3, o3_4, o11_0, o11_1, o11_2, o11_3, o4_0, o4_1, o4_2, o4_3, o4_4, o4_5, o4_6, o5_0, o5_1, o5_2, o5_3, o5_4, o5_5, n5, o5s_0, o5s_1, o5s_2, o5s_3, o5s_4, o5s_5, o17_0, o17_1, o19_0, o19_1, o20_0, o20_1, o20_2, o21_0, o21_1, o21_2, o21_3, it0]
  rw [← hHI]
  exact i1
end
