/-! what a sentence says of a row -/
-- jc_ref, rI_int, rR_ref, rR_null, rJ_long, ckR_ref, ckR_null, ckr_ref, ckr_null, ckW_int, ckW_ref, ckW_null, cI_ok, cR_ok, cR_null, cV_ok, cJ_ok, qH_eq, qD_in, aG_ref, aS_ref, aL_ref, pF_ref, cK_ref, cK_null, zI_lit, zJ_lit, zI_add, zI_sub, zI_mul, zI_neg, zI_eq, zI_lt, zI_le, Int.reduceLT, Int.reduceLE, Int.reduceAdd, Int.reduceSub, Int.reduceMul, Int.reduceNeg, Int.reduceEq, Int.reduceNe, reduceIte, jf_in, pFc_in, aGi, aGb, aSi, aLc_in, cKc_in, nA_in, jm_s1, jm_s2, jm_p1, jm_p2, jm_b, jn_b, jn_s, jn_p, jset_jset, jset_jpush2, ckR_is, ckr_is, rR_is, ckW_is, cR_is, obi2, ckW_int, eq_self, if_true, ref_null, if_false, ne_eq, not_true_eq_false, not_false_eq_true, decide_true, decide_false, decide_not, Bool.true_and, Bool.false_and, Bool.and_true, Bool.and_false, Bool.true_or, Bool.false_or, Bool.or_true, Bool.or_false, Bool.not_true, Bool.not_false, Bool.false_eq_true, bI_t, bI_f, Int.natCast_one, Int.cast_ofNat_Int, Int.natCast_zero, o23_0, o23_1, o23_2, o12_0, o12_1, o13_0, o13_1, o13_2, o13_3, o13_4, o13_5, o13_6, o14_0, o14_1, o14_2, o14_3, o14_4, o14_5, o3_0, o3_1, o3_2, o3_3, o3_4, o11_0, o11_1, o11_2, o11_3, o4_0, o4_1, o4_2, o4_3, o4_4, o4_5, o4_6, o31_0, o32_0, o33_0, o34_0, o34_1, o34_2, o35_0, o35_1, o35_2 = jc_ref, rI_int, rR_ref, rR_null, rJ_long, ckR_ref, ckR_null, ckr_ref, ckr_null, ckW_int, ckW_ref, ckW_null, cI_ok, cR_ok, cR_null, cV_ok, cJ_ok, qH_eq, qD_in, aG_ref, aS_ref, aL_ref, pF_ref, cK_ref, cK_null, zI_lit, zJ_lit, zI_add, zI_sub, zI_mul, zI_neg, zI_eq, zI_lt, zI_le, Int.reduceLT, Int.reduceLE, Int.reduceAdd, Int.reduceSub, Int.reduceMul, Int.reduceNeg, Int.reduceEq, Int.reduceNe, reduceIte, jf_in, pFc_in, aGi, aGb, aSi, aLc_in, cKc_in, nA_in, jm_s1, jm_s2, jm_p1, jm_p2, jm_b, jn_b, jn_s, jn_p, jset_jset, jset_jpush2, ckR_is, ckr_is, rR_is, ckW_is, cR_is, obi2, ckW_int, eq_self, if_true, ref_null, if_false, ne_eq, not_true_eq_false, not_false_eq_true, decide_true, decide_false, decide_not, Bool.true_and, Bool.false_and, Bool.and_true, Bool.and_false, Bool.true_or, Bool.false_or, Bool.or_true, Bool.or_false, Bool.not_true, Bool.not_false, Bool.false_eq_true, bI_t, bI_f, Int.natCast_one, Int.cast_ofNat_Int, Int.natCast_zero, o23_0, o23_1, o23_2, o12_0, o12_1, o13_0, o13_1, o13_2, o13_3, o13_4, o13_5, o13_6, o14_0, o14_1, o14_2, o14_3, o14_4, o14_5, o3_0, o3_1, o3_2, o3_3, o3_4, o11_0, o11_1, o11_2, o11_3, o4_0, o4_1, o4_2, o4_3, o4_4, o4_5, o4_6, o31_0, o32_0, o33_0, o34_0, o34_1, o34_2, o35_0, o35_1, o35_2
section
variable {S : Int → Int} {q : Int}
def rfG (S : Int → Int) (q : Int) (j : Nat) (r : Int) : Nat → Int → Int
  | 0, _ => 0
  | n + 1, f => rfR S q f j r + rfG S q j r n (f + 1)
theorem rfF_G : ∀ (n : Nat) (f : Int), rfF S q n f = rfG S q 99 0 n f := by
  intro n
  induction n with
  | zero => intro f; rfl
  | succ n ih =>
    intro f
    show rfR S q f 99 0 + rfF S q n (f + 1) = rfR S q f 99 0 + rfG S q 99 0 n (f + 1)
    rw [ih]
theorem rfG_st {j : Nat} {r : Int} : ∀ (n : Nat) (f : Int), rfG S q (j + 1) r n f = (if S (150 + r) = 1 then cntF (rfP S q r) n f else 0) + rfG S q j (r + 1) n f := by
  intro n
  induction n with
  | zero => intro f; show (0 : Int) = (if S (150 + r) = 1 then 0 else 0) + 0; split <;> rfl
  | succ n ih =>
    intro f
    show ((if rowOf S r (S (58 + f)) = true ∧ tgtS S r f = q then 1 else 0) + rfR S q f j (r + 1)) + rfG S q (j + 1) r n (f + 1) = (if S (150 + r) = 1 then ((if rfP S q r f = true then 1 else 0) + cntF (rfP S q r) n (f + 1)) else 0) + (rfR S q f j (r + 1) + rfG S q j (r + 1) n (f + 1))
    rw [ih]
    have e : (rowOf S r (S (58 + f)) = true ∧ tgtS S r f = q) ↔ S (150 + r) = 1 ∧ rfP S q r f = true := by
      unfold rfP
      rw [rowOf_t, Bool.and_eq_true, decide_eq_true_eq, decide_eq_true_eq]
      exact ⟨fun h => ⟨h.1.1, h.1.2, h.2⟩, fun h => ⟨⟨h.1, h.2.1⟩, h.2.2⟩⟩
    by_cases c : S (150 + r) = 1
    · rw [if_pos c, if_pos c]
      by_cases c2 : rfP S q r f = true
      · rw [if_pos c2, if_pos (e.mpr ⟨c, c2⟩)]; omega
      · rw [if_neg c2, if_neg (fun u => c2 (e.mp u).2)]; omega
    · rw [if_neg c, if_neg c, if_neg (fun u => c (e.mp u).1)]; omega
theorem rfG_0 {r : Int} : ∀ (n : Nat) (f : Int), rfG S q 0 r n f = 0 := by
  intro n
  induction n with
  | zero => intro f; rfl
  | succ n ih => intro f; show (0 : Int) + rfG S q 0 r n (f + 1) = 0; rw [ih]; rfl
theorem rfL_G : ∀ (j : Nat) (r : Int), rfL S q (alv S 150 j r) = rfG S q j r (S 2).toNat 0 := by
  intro j
  induction j with
  | zero => intro r; rw [rfG_0]; rfl
  | succ j ih =>
    intro r
    rw [rfG_st, ← ih]
    show rfL S q (if S (150 + r) = 1 then r :: alv S 150 j (r + 1) else alv S 150 j (r + 1)) = _
    by_cases c : S (150 + r) = 1
    · rw [if_pos c, if_pos c]; rfl
    · rw [if_neg c, if_neg c, Int.zero_add]
/-- how many refer to a row, told by both -/
theorem rfL_F : rfL S q (alv S 150 99 0) = rfF S q (S 2).toNat 0 := by rw [rfF_G, rfL_G]
end
section
variable {d : Nat} {H : AH} {F : Nat → Option Cl} {a b q wl n : Nat} {r ins on : Int} {l1 l2 l3 : List Value} {bs : Nat → Bool} {S nm : Int → Int} {ra : Int → Nat} {c : Cd}
theorem c_isBare (W : StW S) (hF : Fzn F H) (hS : SchF F q S nm) (s0 : SH H a (.ref q) ins on l1 l2 l3 wl bs) (hr : RowF F b r (S (249 + r)) (cellS S r)) (r0 : 0 ≤ r) (r1 : r < 99) (t1 : S (249 + r) < S 0) {e : Nat} (he : jm H e = some (32, 1, o32 0)) : M2 (d + 3) 32001 [.ref e, .ref a, .ref b] H = some (.inl (some (.int (zI (bZ (anyF (fun x => decide (cellS S r x < 0)) (S (4 + S (249 + r))).toNat 0))))), H) := by
  have TA := W.ta r0 r1
  have CO := W.co TA.1 TA.2
  have a0 := s0.1
  obtain ⟨ln, qt, qk, qr, qc, z1, z2, -⟩ := id hS
  have z1' := hF.m z1
  obtain ⟨tb, hT, hg⟩ := z2.get hF TA.1 t1
  obtain ⟨qn, qcs, qq, qb, u1, -, u3, -⟩ := hT
  have u1' := hF.m u1
  have csz := u3.size hF
  obtain ⟨re, rg, m1, m2, m3⟩ := id hr
  have m1' := hF.m m1
  have m2' := hF.m m2
  have rv : (jtRecv 32001).elem 32 = true := rfl
  have lp : ∀ (j : Nat) (c : Int), 0 ≤ c → c + j = S (4 + S (249 + r)) → G2 (d + 2) 32001 2 [.ref e, .ref a, .ref b, .int (zI c)] [] H = some (.inl (some (.int (zI (bZ (anyF (fun x => decide (cellS S r x < 0)) j c))))), H) := by
    intro j
    induction j with
    | zero =>
      intro c c0 hc
      have le : S (4 + S (249 + r)) ≤ c := by omega
      rw [F32001_2]
      simp (disch := first | assumption | omega | decide | exact okF_i | exact okF_r | exact okF_n | exact okF_j | rfl) only [jc_ref, rI_int, rR_ref, rR_null, rJ_long, ckR_ref, ckR_null, ckr_ref, ckr_null, ckW_int, ckW_ref, ckW_null, cI_ok, cR_ok, cR_null, cV_ok, cJ_ok, qH_eq, qD_in, aG_ref, aS_ref, aL_ref, pF_ref, cK_ref, cK_null, zI_lit, zJ_lit, zI_add, zI_sub, zI_mul, zI_neg, zI_eq, zI_lt, zI_le, Int.reduceLT, Int.reduceLE, Int.reduceAdd, Int.reduceSub, Int.reduceMul, Int.reduceNeg, Int.reduceEq, Int.reduceNe, reduceIte, jf_in, pFc_in, aGi, aGb, aSi, aLc_in, cKc_in, nA_in, jm_s1, jm_s2, jm_p1, jm_p2, jm_b, jn_b, jn_s, jn_p, jset_jset, jset_jpush2, ckR_is, ckr_is, rR_is, ckW_is, cR_is, obi2, ckW_int, eq_self, if_true, ref_null, if_false, ne_eq, not_true_eq_false, not_false_eq_true, decide_true, decide_false, decide_not, Bool.true_and, Bool.false_and, Bool.and_true, Bool.and_false, Bool.true_or, Bool.false_or, Bool.or_true, Bool.or_false, Bool.not_true, Bool.not_false, Bool.false_eq_true, bI_t, bI_f, Int.natCast_one, Int.cast_ofNat_Int, Int.natCast_zero, o23_0, o23_1, o23_2, o12_0, o12_1, o13_0, o13_1, o13_2, o13_3, o13_4, o13_5, o13_6, o14_0, o14_1, o14_2, o14_3, o14_4, o14_5, o3_0, o3_1, o3_2, o3_3, o3_4, o11_0, o11_1, o11_2, o11_3, o4_0, o4_1, o4_2, o4_3, o4_4, o4_5, o4_6, o31_0, o32_0, o33_0, o34_0, o34_1, o34_2, o35_0, o35_1, o35_2, a0, z1', m1', hg, u1', csz, le]
      rfl
    | succ j ih =>
      intro c c0 hc
      have m3' := m3 c c0 (by omega)
      have cr2 := W.cell r0 r1 c0 (show c < 4 by omega)
      have ih' := ih (c + 1) (by omega) (by omega)
      have st : anyF (fun x => decide (cellS S r x < 0)) (j + 1) c = (decide (cellS S r c < 0) || anyF (fun x => decide (cellS S r x < 0)) j (c + 1)) := rfl
      have le : ¬ S (4 + S (249 + r)) ≤ c := by omega
      rw [F32001_2, st]
      by_cases ho : cellS S r c = -1
      · rw [decide_eq_true (by omega), Bool.true_or, bZ_t]
        rw [ho] at m3'
        simp (disch := first | assumption | omega | decide | exact okF_i | exact okF_r | exact okF_n | exact okF_j | rfl) only [jc_ref, rI_int, rR_ref, rR_null, rJ_long, ckR_ref, ckR_null, ckr_ref, ckr_null, ckW_int, ckW_ref, ckW_null, cI_ok, cR_ok, cR_null, cV_ok, cJ_ok, qH_eq, qD_in, aG_ref, aS_ref, aL_ref, pF_ref, cK_ref, cK_null, zI_lit, zJ_lit, zI_add, zI_sub, zI_mul, zI_neg, zI_eq, zI_lt, zI_le, Int.reduceLT, Int.reduceLE, Int.reduceAdd, Int.reduceSub, Int.reduceMul, Int.reduceNeg, Int.reduceEq, Int.reduceNe, reduceIte, jf_in, pFc_in, aGi, aGb, aSi, aLc_in, cKc_in, nA_in, jm_s1, jm_s2, jm_p1, jm_p2, jm_b, jn_b, jn_s, jn_p, jset_jset, jset_jpush2, ckR_is, ckr_is, rR_is, ckW_is, cR_is, obi2, ckW_int, eq_self, if_true, ref_null, if_false, ne_eq, not_true_eq_false, not_false_eq_true, decide_true, decide_false, decide_not, Bool.true_and, Bool.false_and, Bool.and_true, Bool.and_false, Bool.true_or, Bool.false_or, Bool.or_true, Bool.or_false, Bool.not_true, Bool.not_false, Bool.false_eq_true, bI_t, bI_f, Int.natCast_one, Int.cast_ofNat_Int, Int.natCast_zero, o23_0, o23_1, o23_2, o12_0, o12_1, o13_0, o13_1, o13_2, o13_3, o13_4, o13_5, o13_6, o14_0, o14_1, o14_2, o14_3, o14_4, o14_5, o3_0, o3_1, o3_2, o3_3, o3_4, o11_0, o11_1, o11_2, o11_3, o4_0, o4_1, o4_2, o4_3, o4_4, o4_5, o4_6, o31_0, o32_0, o33_0, o34_0, o34_1, o34_2, o35_0, o35_1, o35_2, a0, z1', m1', m2', hg, u1', csz, le, m3']
      · rw [decide_eq_false (by omega), Bool.false_or, ← ih']
        simp (disch := first | assumption | omega | decide | exact okF_i | exact okF_r | exact okF_n | exact okF_j | rfl) only [jc_ref, rI_int, rR_ref, rR_null, rJ_long, ckR_ref, ckR_null, ckr_ref, ckr_null, ckW_int, ckW_ref, ckW_null, cI_ok, cR_ok, cR_null, cV_ok, cJ_ok, qH_eq, qD_in, aG_ref, aS_ref, aL_ref, pF_ref, cK_ref, cK_null, zI_lit, zJ_lit, zI_add, zI_sub, zI_mul, zI_neg, zI_eq, zI_lt, zI_le, Int.reduceLT, Int.reduceLE, Int.reduceAdd, Int.reduceSub, Int.reduceMul, Int.reduceNeg, Int.reduceEq, Int.reduceNe, reduceIte, jf_in, pFc_in, aGi, aGb, aSi, aLc_in, cKc_in, nA_in, jm_s1, jm_s2, jm_p1, jm_p2, jm_b, jn_b, jn_s, jn_p, jset_jset, jset_jpush2, ckR_is, ckr_is, rR_is, ckW_is, cR_is, obi2, ckW_int, eq_self, if_true, ref_null, if_false, ne_eq, not_true_eq_false, not_false_eq_true, decide_true, decide_false, decide_not, Bool.true_and, Bool.false_and, Bool.and_true, Bool.and_false, Bool.true_or, Bool.false_or, Bool.or_true, Bool.or_false, Bool.not_true, Bool.not_false, Bool.false_eq_true, bI_t, bI_f, Int.natCast_one, Int.cast_ofNat_Int, Int.natCast_zero, o23_0, o23_1, o23_2, o12_0, o12_1, o13_0, o13_1, o13_2, o13_3, o13_4, o13_5, o13_6, o14_0, o14_1, o14_2, o14_3, o14_4, o14_5, o3_0, o3_1, o3_2, o3_3, o3_4, o11_0, o11_1, o11_2, o11_3, o4_0, o4_1, o4_2, o4_3, o4_4, o4_5, o4_6, o31_0, o32_0, o33_0, o34_0, o34_1, o34_2, o35_0, o35_1, o35_2, a0, z1', m1', m2', hg, u1', csz, le, m3', ho]
  rw [Y32001 H rfl rfl (jrecv_in he rv), F32001_0]
  exact lp _ 0 (Int.le_refl _) (by omega)
theorem dec01 {p : Prop} [Decidable p] {X Y : Rz} : (if p then X else Y) = if decide p = true then X else Y := by
  by_cases h : p
  · rw [if_pos h, if_pos (decide_eq_true h)]
  · rw [if_neg h, if_neg (fun u => h (of_decide_eq_true u))]
set_option maxRecDepth 8000 in
/-- a leaf is so of a row -/
theorem c_leaf (W : StW S) (hF : Fzn F H) (hS : SchF F q S nm) (hE : EnvS F (je H)) (s0 : SH H a (.ref q) ins on l1 l2 l3 wl bs) (hRo : RowsF F l1 S 150 348 ra) (hal : ∀ x, F a = some x → True) (haH : l1.length ≤ 40) (hbs : ∀ k : Int, 0 ≤ k → k < 99 → bs k.toNat = (violS S true).any (fun v => decide (v.2.2 = k))) (r0 : 0 ≤ r) (r1 : r < 99) (r2 : S (150 + r) = 1)
    (h : LfO F S nm b c) (hw : LfW S nm c) : MvH (d + 6) 9104 [.ref b, .ref a, .ref (ra r)] H = some (.inl (some (.int (zI (bZ (lfT S r c))))), H) := by
  have TA := W.ta r0 r1
  have CO := W.co TA.1 TA.2
  have rw1 := (W.2.1 r r0 r1).1.2 r2
  have t1 := rw1.1
  have row := hRo.2 r r0 r1 r2
  obtain ⟨re, rg, m1, m2, m3⟩ := id row
  have m1' := hF.m m1
  have m2' := hF.m m2
  have a0 := s0.1
  have a7 := s0.2.2.2.2.1
  rcases h with ⟨h1, h2⟩ | ⟨h1, h2⟩ | ⟨u, ub, h1, h2, h3, h4⟩
  · have hm := hF.m h2
    have mv : MvH (d + 6) 9104 [.ref b, .ref a, .ref (ra r)] H = M2 (d + 6) 32000 [.ref b, .ref a, .ref (ra r)] H := by simp only [MvH, hm]; rfl
    have rv : (jtRecv 32000).elem 32 = true := rfl
    rw [mv, Y32000 H rfl rfl (jrecv_in hm rv), F32000_0]
    rcases h1 with e | e | e
    · rw [e] at hm
      have bare := c_isBare (d := d + 2) W hF hS s0 row r0 r1 t1 hm
      have lt : lfT S r c = anyF (fun x => decide (cellS S r x < 0)) (S (4 + S (249 + r))).toNat 0 := by unfold lfT; rw [if_pos e]
      rw [lt]
      generalize anyF (fun x => decide (cellS S r x < 0)) (S (4 + S (249 + r))).toNat 0 = tr at bare ⊢
      cases tr with
      | true => rw [bZ_t] at bare ⊢; simp (disch := first | assumption | omega | decide | exact okF_i | exact okF_r | exact okF_n | exact okF_j | rfl) only [jc_ref, rI_int, rR_ref, rR_null, rJ_long, ckR_ref, ckR_null, ckr_ref, ckr_null, ckW_int, ckW_ref, ckW_null, cI_ok, cR_ok, cR_null, cV_ok, cJ_ok, qH_eq, qD_in, aG_ref, aS_ref, aL_ref, pF_ref, cK_ref, cK_null, zI_lit, zJ_lit, zI_add, zI_sub, zI_mul, zI_neg, zI_eq, zI_lt, zI_le, Int.reduceLT, Int.reduceLE, Int.reduceAdd, Int.reduceSub, Int.reduceMul, Int.reduceNeg, Int.reduceEq, Int.reduceNe, reduceIte, jf_in, pFc_in, aGi, aGb, aSi, aLc_in, cKc_in, nA_in, jm_s1, jm_s2, jm_p1, jm_p2, jm_b, jn_b, jn_s, jn_p, jset_jset, jset_jpush2, ckR_is, ckr_is, rR_is, ckW_is, cR_is, obi2, ckW_int, eq_self, if_true, ref_null, if_false, ne_eq, not_true_eq_false, not_false_eq_true, decide_true, decide_false, decide_not, Bool.true_and, Bool.false_and, Bool.and_true, Bool.and_false, Bool.true_or, Bool.false_or, Bool.or_true, Bool.or_false, Bool.not_true, Bool.not_false, Bool.false_eq_true, bI_t, bI_f, Int.natCast_one, Int.cast_ofNat_Int, Int.natCast_zero, o23_0, o23_1, o23_2, o12_0, o12_1, o13_0, o13_1, o13_2, o13_3, o13_4, o13_5, o13_6, o14_0, o14_1, o14_2, o14_3, o14_4, o14_5, o3_0, o3_1, o3_2, o3_3, o3_4, o11_0, o11_1, o11_2, o11_3, o4_0, o4_1, o4_2, o4_3, o4_4, o4_5, o4_6, o31_0, o32_0, o33_0, o34_0, o34_1, o34_2, o35_0, o35_1, o35_2, hm, bare, okZ_1]
      | false => rw [bZ_f] at bare ⊢; simp (disch := first | assumption | omega | decide | exact okF_i | exact okF_r | exact okF_n | exact okF_j | rfl) only [jc_ref, rI_int, rR_ref, rR_null, rJ_long, ckR_ref, ckR_null, ckr_ref, ckr_null, ckW_int, ckW_ref, ckW_null, cI_ok, cR_ok, cR_null, cV_ok, cJ_ok, qH_eq, qD_in, aG_ref, aS_ref, aL_ref, pF_ref, cK_ref, cK_null, zI_lit, zJ_lit, zI_add, zI_sub, zI_mul, zI_neg, zI_eq, zI_lt, zI_le, Int.reduceLT, Int.reduceLE, Int.reduceAdd, Int.reduceSub, Int.reduceMul, Int.reduceNeg, Int.reduceEq, Int.reduceNe, reduceIte, jf_in, pFc_in, aGi, aGb, aSi, aLc_in, cKc_in, nA_in, jm_s1, jm_s2, jm_p1, jm_p2, jm_b, jn_b, jn_s, jn_p, jset_jset, jset_jpush2, ckR_is, ckr_is, rR_is, ckW_is, cR_is, obi2, ckW_int, eq_self, if_true, ref_null, if_false, ne_eq, not_true_eq_false, not_false_eq_true, decide_true, decide_false, decide_not, Bool.true_and, Bool.false_and, Bool.and_true, Bool.and_false, Bool.true_or, Bool.false_or, Bool.or_true, Bool.or_false, Bool.not_true, Bool.not_false, Bool.false_eq_true, bI_t, bI_f, Int.natCast_one, Int.cast_ofNat_Int, Int.natCast_zero, o23_0, o23_1, o23_2, o12_0, o12_1, o13_0, o13_1, o13_2, o13_3, o13_4, o13_5, o13_6, o14_0, o14_1, o14_2, o14_3, o14_4, o14_5, o3_0, o3_1, o3_2, o3_3, o3_4, o11_0, o11_1, o11_2, o11_3, o4_0, o4_1, o4_2, o4_3, o4_4, o4_5, o4_6, o31_0, o32_0, o33_0, o34_0, o34_1, o34_2, o35_0, o35_1, o35_2, hm, bare, okZ_0]
    · rw [e] at hm
      have rf := c_referred (d := d + 1) W hF hS (s0.sq hRo) r0 r1 r2
      rw [rfL_F] at rf
      have rg := rfF_rg (S := S) (q := r) (S 2).toNat 0
      have N := W.n0
      have lt : lfT S r c = decide (0 < rfF S r (S 2).toNat 0) := by unfold lfT; rw [if_neg (by omega), if_pos e]
      rw [lt]
      generalize rfF S r (S 2).toNat 0 = k at rf rg ⊢
      by_cases c : 0 < k
      · have nk : ¬ k ≤ 0 := by omega
        rw [decide_eq_true c, bZ_t]
        simp (disch := first | assumption | omega | decide | exact okF_i | exact okF_r | exact okF_n | exact okF_j | rfl) only [jc_ref, rI_int, rR_ref, rR_null, rJ_long, ckR_ref, ckR_null, ckr_ref, ckr_null, ckW_int, ckW_ref, ckW_null, cI_ok, cR_ok, cR_null, cV_ok, cJ_ok, qH_eq, qD_in, aG_ref, aS_ref, aL_ref, pF_ref, cK_ref, cK_null, zI_lit, zJ_lit, zI_add, zI_sub, zI_mul, zI_neg, zI_eq, zI_lt, zI_le, Int.reduceLT, Int.reduceLE, Int.reduceAdd, Int.reduceSub, Int.reduceMul, Int.reduceNeg, Int.reduceEq, Int.reduceNe, reduceIte, jf_in, pFc_in, aGi, aGb, aSi, aLc_in, cKc_in, nA_in, jm_s1, jm_s2, jm_p1, jm_p2, jm_b, jn_b, jn_s, jn_p, jset_jset, jset_jpush2, ckR_is, ckr_is, rR_is, ckW_is, cR_is, obi2, ckW_int, eq_self, if_true, ref_null, if_false, ne_eq, not_true_eq_false, not_false_eq_true, decide_true, decide_false, decide_not, Bool.true_and, Bool.false_and, Bool.and_true, Bool.and_false, Bool.true_or, Bool.false_or, Bool.or_true, Bool.or_false, Bool.not_true, Bool.not_false, Bool.false_eq_true, bI_t, bI_f, Int.natCast_one, Int.cast_ofNat_Int, Int.natCast_zero, o23_0, o23_1, o23_2, o12_0, o12_1, o13_0, o13_1, o13_2, o13_3, o13_4, o13_5, o13_6, o14_0, o14_1, o14_2, o14_3, o14_4, o14_5, o3_0, o3_1, o3_2, o3_3, o3_4, o11_0, o11_1, o11_2, o11_3, o4_0, o4_1, o4_2, o4_3, o4_4, o4_5, o4_6, o31_0, o32_0, o33_0, o34_0, o34_1, o34_2, o35_0, o35_1, o35_2, hm, rf, nk]
      · have nk : k ≤ 0 := by omega
        rw [decide_eq_false c, bZ_f]
        simp (disch := first | assumption | omega | decide | exact okF_i | exact okF_r | exact okF_n | exact okF_j | rfl) only [jc_ref, rI_int, rR_ref, rR_null, rJ_long, ckR_ref, ckR_null, ckr_ref, ckr_null, ckW_int, ckW_ref, ckW_null, cI_ok, cR_ok, cR_null, cV_ok, cJ_ok, qH_eq, qD_in, aG_ref, aS_ref, aL_ref, pF_ref, cK_ref, cK_null, zI_lit, zJ_lit, zI_add, zI_sub, zI_mul, zI_neg, zI_eq, zI_lt, zI_le, Int.reduceLT, Int.reduceLE, Int.reduceAdd, Int.reduceSub, Int.reduceMul, Int.reduceNeg, Int.reduceEq, Int.reduceNe, reduceIte, jf_in, pFc_in, aGi, aGb, aSi, aLc_in, cKc_in, nA_in, jm_s1, jm_s2, jm_p1, jm_p2, jm_b, jn_b, jn_s, jn_p, jset_jset, jset_jpush2, ckR_is, ckr_is, rR_is, ckW_is, cR_is, obi2, ckW_int, eq_self, if_true, ref_null, if_false, ne_eq, not_true_eq_false, not_false_eq_true, decide_true, decide_false, decide_not, Bool.true_and, Bool.false_and, Bool.and_true, Bool.and_false, Bool.true_or, Bool.false_or, Bool.or_true, Bool.or_false, Bool.not_true, Bool.not_false, Bool.false_eq_true, bI_t, bI_f, Int.natCast_one, Int.cast_ofNat_Int, Int.natCast_zero, o23_0, o23_1, o23_2, o12_0, o12_1, o13_0, o13_1, o13_2, o13_3, o13_4, o13_5, o13_6, o14_0, o14_1, o14_2, o14_3, o14_4, o14_5, o3_0, o3_1, o3_2, o3_3, o3_4, o11_0, o11_1, o11_2, o11_3, o4_0, o4_1, o4_2, o4_3, o4_4, o4_5, o4_6, o31_0, o32_0, o33_0, o34_0, o34_1, o34_2, o35_0, o35_1, o35_2, hm, rf, nk]
    · rw [e] at hm
      have gb := h_bget (d := d + 4) a7 (by have := s0.2.2.2.2.2.2.2.2; omega) r0 (by omega)
      have lt : lfT S r c = bs r.toNat := by unfold lfT; rw [if_neg (by omega), if_neg (by omega), if_pos e, hbs r r0 r1]
      rw [lt]
      cases hb : bs r.toNat with
      | true => rw [hb] at gb; rw [bZ_t]; simp (disch := first | assumption | omega | decide | exact okF_i | exact okF_r | exact okF_n | exact okF_j | rfl) only [jc_ref, rI_int, rR_ref, rR_null, rJ_long, ckR_ref, ckR_null, ckr_ref, ckr_null, ckW_int, ckW_ref, ckW_null, cI_ok, cR_ok, cR_null, cV_ok, cJ_ok, qH_eq, qD_in, aG_ref, aS_ref, aL_ref, pF_ref, cK_ref, cK_null, zI_lit, zJ_lit, zI_add, zI_sub, zI_mul, zI_neg, zI_eq, zI_lt, zI_le, Int.reduceLT, Int.reduceLE, Int.reduceAdd, Int.reduceSub, Int.reduceMul, Int.reduceNeg, Int.reduceEq, Int.reduceNe, reduceIte, jf_in, pFc_in, aGi, aGb, aSi, aLc_in, cKc_in, nA_in, jm_s1, jm_s2, jm_p1, jm_p2, jm_b, jn_b, jn_s, jn_p, jset_jset, jset_jpush2, ckR_is, ckr_is, rR_is, ckW_is, cR_is, obi2, ckW_int, eq_self, if_true, ref_null, if_false, ne_eq, not_true_eq_false, not_false_eq_true, decide_true, decide_false, decide_not, Bool.true_and, Bool.false_and, Bool.and_true, Bool.and_false, Bool.true_or, Bool.false_or, Bool.or_true, Bool.or_false, Bool.not_true, Bool.not_false, Bool.false_eq_true, bI_t, bI_f, Int.natCast_one, Int.cast_ofNat_Int, Int.natCast_zero, o23_0, o23_1, o23_2, o12_0, o12_1, o13_0, o13_1, o13_2, o13_3, o13_4, o13_5, o13_6, o14_0, o14_1, o14_2, o14_3, o14_4, o14_5, o3_0, o3_1, o3_2, o3_3, o3_4, o11_0, o11_1, o11_2, o11_3, o4_0, o4_1, o4_2, o4_3, o4_4, o4_5, o4_6, o31_0, o32_0, o33_0, o34_0, o34_1, o34_2, o35_0, o35_1, o35_2, hm, a0, m1', gb, okZ_1]
      | false => rw [hb] at gb; rw [bZ_f]; simp (disch := first | assumption | omega | decide | exact okF_i | exact okF_r | exact okF_n | exact okF_j | rfl) only [jc_ref, rI_int, rR_ref, rR_null, rJ_long, ckR_ref, ckR_null, ckr_ref, ckr_null, ckW_int, ckW_ref, ckW_null, cI_ok, cR_ok, cR_null, cV_ok, cJ_ok, qH_eq, qD_in, aG_ref, aS_ref, aL_ref, pF_ref, cK_ref, cK_null, zI_lit, zJ_lit, zI_add, zI_sub, zI_mul, zI_neg, zI_eq, zI_lt, zI_le, Int.reduceLT, Int.reduceLE, Int.reduceAdd, Int.reduceSub, Int.reduceMul, Int.reduceNeg, Int.reduceEq, Int.reduceNe, reduceIte, jf_in, pFc_in, aGi, aGb, aSi, aLc_in, cKc_in, nA_in, jm_s1, jm_s2, jm_p1, jm_p2, jm_b, jn_b, jn_s, jn_p, jset_jset, jset_jpush2, ckR_is, ckr_is, rR_is, ckW_is, cR_is, obi2, ckW_int, eq_self, if_true, ref_null, if_false, ne_eq, not_true_eq_false, not_false_eq_true, decide_true, decide_false, decide_not, Bool.true_and, Bool.false_and, Bool.and_true, Bool.and_false, Bool.true_or, Bool.false_or, Bool.or_true, Bool.or_false, Bool.not_true, Bool.not_false, Bool.false_eq_true, bI_t, bI_f, Int.natCast_one, Int.cast_ofNat_Int, Int.natCast_zero, o23_0, o23_1, o23_2, o12_0, o12_1, o13_0, o13_1, o13_2, o13_3, o13_4, o13_5, o13_6, o14_0, o14_1, o14_2, o14_3, o14_4, o14_5, o3_0, o3_1, o3_2, o3_3, o3_4, o11_0, o11_1, o11_2, o11_3, o4_0, o4_1, o4_2, o4_3, o4_4, o4_5, o4_6, o31_0, o32_0, o33_0, o34_0, o34_1, o34_2, o35_0, o35_1, o35_2, hm, a0, m1', gb, okZ_0]
  · have hm := hF.m h2
    have mv : MvH (d + 6) 9104 [.ref b, .ref a, .ref (ra r)] H = M2 (d + 6) 33000 [.ref b, .ref a, .ref (ra r)] H := by simp only [MvH, hm]; rfl
    have rv : (jtRecv 33000).elem 33 = true := rfl
    rw [mv, Y33000 H rfl rfl (jrecv_in hm rv), F33000_0]
    have lt : lfT S r c = decide (S (249 + r) = c.2.2) := by unfold lfT; rw [if_neg (by omega), if_neg (by omega), if_neg (by omega), if_pos h1]
    have c22 : 0 ≤ c.2.2 ∧ c.2.2 < 4 := by rcases hw with (h | h | h | h) | ⟨h | ⟨w, h, -⟩, -⟩ <;> first | omega | exact h.2 | (have := pkZ_lt (nm := nm) (w := w) W.sc; omega)
    rw [lt]
    by_cases e : S (249 + r) = c.2.2
    · rw [decide_eq_true e, bZ_t]
      simp (disch := first | assumption | omega | decide | exact okF_i | exact okF_r | exact okF_n | exact okF_j | rfl) only [jc_ref, rI_int, rR_ref, rR_null, rJ_long, ckR_ref, ckR_null, ckr_ref, ckr_null, ckW_int, ckW_ref, ckW_null, cI_ok, cR_ok, cR_null, cV_ok, cJ_ok, qH_eq, qD_in, aG_ref, aS_ref, aL_ref, pF_ref, cK_ref, cK_null, zI_lit, zJ_lit, zI_add, zI_sub, zI_mul, zI_neg, zI_eq, zI_lt, zI_le, Int.reduceLT, Int.reduceLE, Int.reduceAdd, Int.reduceSub, Int.reduceMul, Int.reduceNeg, Int.reduceEq, Int.reduceNe, reduceIte, jf_in, pFc_in, aGi, aGb, aSi, aLc_in, cKc_in, nA_in, jm_s1, jm_s2, jm_p1, jm_p2, jm_b, jn_b, jn_s, jn_p, jset_jset, jset_jpush2, ckR_is, ckr_is, rR_is, ckW_is, cR_is, obi2, ckW_int, eq_self, if_true, ref_null, if_false, ne_eq, not_true_eq_false, not_false_eq_true, decide_true, decide_false, decide_not, Bool.true_and, Bool.false_and, Bool.and_true, Bool.and_false, Bool.true_or, Bool.false_or, Bool.or_true, Bool.or_false, Bool.not_true, Bool.not_false, Bool.false_eq_true, bI_t, bI_f, Int.natCast_one, Int.cast_ofNat_Int, Int.natCast_zero, o23_0, o23_1, o23_2, o12_0, o12_1, o13_0, o13_1, o13_2, o13_3, o13_4, o13_5, o13_6, o14_0, o14_1, o14_2, o14_3, o14_4, o14_5, o3_0, o3_1, o3_2, o3_3, o3_4, o11_0, o11_1, o11_2, o11_3, o4_0, o4_1, o4_2, o4_3, o4_4, o4_5, o4_6, o31_0, o32_0, o33_0, o34_0, o34_1, o34_2, o35_0, o35_1, o35_2, hm, m1', e]
    · rw [decide_eq_false e, bZ_f]
      simp (disch := first | assumption | omega | decide | exact okF_i | exact okF_r | exact okF_n | exact okF_j | rfl) only [jc_ref, rI_int, rR_ref, rR_null, rJ_long, ckR_ref, ckR_null, ckr_ref, ckr_null, ckW_int, ckW_ref, ckW_null, cI_ok, cR_ok, cR_null, cV_ok, cJ_ok, qH_eq, qD_in, aG_ref, aS_ref, aL_ref, pF_ref, cK_ref, cK_null, zI_lit, zJ_lit, zI_add, zI_sub, zI_mul, zI_neg, zI_eq, zI_lt, zI_le, Int.reduceLT, Int.reduceLE, Int.reduceAdd, Int.reduceSub, Int.reduceMul, Int.reduceNeg, Int.reduceEq, Int.reduceNe, reduceIte, jf_in, pFc_in, aGi, aGb, aSi, aLc_in, cKc_in, nA_in, jm_s1, jm_s2, jm_p1, jm_p2, jm_b, jn_b, jn_s, jn_p, jset_jset, jset_jpush2, ckR_is, ckr_is, rR_is, ckW_is, cR_is, obi2, ckW_int, eq_self, if_true, ref_null, if_false, ne_eq, not_true_eq_false, not_false_eq_true, decide_true, decide_false, decide_not, Bool.true_and, Bool.false_and, Bool.and_true, Bool.and_false, Bool.true_or, Bool.false_or, Bool.or_true, Bool.or_false, Bool.not_true, Bool.not_false, Bool.false_eq_true, bI_t, bI_f, Int.natCast_one, Int.cast_ofNat_Int, Int.natCast_zero, o23_0, o23_1, o23_2, o12_0, o12_1, o13_0, o13_1, o13_2, o13_3, o13_4, o13_5, o13_6, o14_0, o14_1, o14_2, o14_3, o14_4, o14_5, o3_0, o3_1, o3_2, o3_3, o3_4, o11_0, o11_1, o11_2, o11_3, o4_0, o4_1, o4_2, o4_3, o4_4, o4_5, o4_6, o31_0, o32_0, o33_0, o34_0, o34_1, o34_2, o35_0, o35_1, o35_2, hm, m1', e]
  · have hm := hF.m h1
    have mv : MvH (d + 6) 9104 [.ref b, .ref a, .ref (ra r)] H = M2 (d + 6) 34000 [.ref b, .ref a, .ref (ra r)] H := by simp only [MvH, hm]; rfl
    have rv : (jtRecv 34000).elem 34 = true := rfl
    obtain ⟨w45, w1, w2⟩ := hE.2 45 (by omega) (by omega)
    have sq := h_streq (d := d + 4) (h2.at hF) (w2.at hF)
    have n45 : NmB (bsL 45) := nmE (by decide)
    have iff := h3.inj n45
    rw [show pk (bsL 45) = wROW by decide] at iff
    have wf : (60 ≤ c.2.1 ∧ c.2.1 ≤ 62) ∧ 0 ≤ c.2.2 ∧ c.2.2 ≤ 99 := by
      have p0 := (pkZ_lt (nm := nm) (w := pk ub) W.sc).1
      rcases hw with (h | h | h | h) | ⟨-, h⟩
      · exfalso; rcases h4 with h4 | h4 <;> omega
      · exfalso; rcases h4 with h4 | h4 <;> omega
      · exfalso; rcases h4 with h4 | h4 <;> omega
      · exfalso; rcases h4 with h4 | h4 <;> omega
      · exact h
    rw [mv, Y34000 H rfl rfl (jrecv_in hm rv), F34000_0]
    rcases h4 with ⟨e1, e2⟩ | ⟨e1, e2⟩
    · rw [decide_eq_true (iff.mpr e2)] at sq
      have so := c_isSo (d := d + 4) (c := r) (k := c.2.1) (n := c.2.2) ⟨by omega, by omega⟩ ⟨by omega, by omega⟩ ⟨by omega, by omega⟩ (H := H)
      have lt : lfT S r c = soZ c.2.1 r c.2.2 := by unfold lfT; rw [if_neg (by omega), if_neg (by omega), if_neg (by omega), if_neg (by omega), if_pos e1]
      rw [lt]
      generalize soZ c.2.1 r c.2.2 = tr at so ⊢
      cases tr with
      | true => rw [bZ_t]; simp (disch := first | assumption | omega | decide | exact okF_i | exact okF_r | exact okF_n | exact okF_j | rfl) only [jc_ref, rI_int, rR_ref, rR_null, rJ_long, ckR_ref, ckR_null, ckr_ref, ckr_null, ckW_int, ckW_ref, ckW_null, cI_ok, cR_ok, cR_null, cV_ok, cJ_ok, qH_eq, qD_in, aG_ref, aS_ref, aL_ref, pF_ref, cK_ref, cK_null, zI_lit, zJ_lit, zI_add, zI_sub, zI_mul, zI_neg, zI_eq, zI_lt, zI_le, Int.reduceLT, Int.reduceLE, Int.reduceAdd, Int.reduceSub, Int.reduceMul, Int.reduceNeg, Int.reduceEq, Int.reduceNe, reduceIte, jf_in, pFc_in, aGi, aGb, aSi, aLc_in, cKc_in, nA_in, jm_s1, jm_s2, jm_p1, jm_p2, jm_b, jn_b, jn_s, jn_p, jset_jset, jset_jpush2, ckR_is, ckr_is, rR_is, ckW_is, cR_is, obi2, ckW_int, eq_self, if_true, ref_null, if_false, ne_eq, not_true_eq_false, not_false_eq_true, decide_true, decide_false, decide_not, Bool.true_and, Bool.false_and, Bool.and_true, Bool.and_false, Bool.true_or, Bool.false_or, Bool.or_true, Bool.or_false, Bool.not_true, Bool.not_false, Bool.false_eq_true, bI_t, bI_f, Int.natCast_one, Int.cast_ofNat_Int, Int.natCast_zero, o23_0, o23_1, o23_2, o12_0, o12_1, o13_0, o13_1, o13_2, o13_3, o13_4, o13_5, o13_6, o14_0, o14_1, o14_2, o14_3, o14_4, o14_5, o3_0, o3_1, o3_2, o3_3, o3_4, o11_0, o11_1, o11_2, o11_3, o4_0, o4_1, o4_2, o4_3, o4_4, o4_5, o4_6, o31_0, o32_0, o33_0, o34_0, o34_1, o34_2, o35_0, o35_1, o35_2, hm, w1, sq, m1', so, okZ_1]
      | false => rw [bZ_f]; simp (disch := first | assumption | omega | decide | exact okF_i | exact okF_r | exact okF_n | exact okF_j | rfl) only [jc_ref, rI_int, rR_ref, rR_null, rJ_long, ckR_ref, ckR_null, ckr_ref, ckr_null, ckW_int, ckW_ref, ckW_null, cI_ok, cR_ok, cR_null, cV_ok, cJ_ok, qH_eq, qD_in, aG_ref, aS_ref, aL_ref, pF_ref, cK_ref, cK_null, zI_lit, zJ_lit, zI_add, zI_sub, zI_mul, zI_neg, zI_eq, zI_lt, zI_le, Int.reduceLT, Int.reduceLE, Int.reduceAdd, Int.reduceSub, Int.reduceMul, Int.reduceNeg, Int.reduceEq, Int.reduceNe, reduceIte, jf_in, pFc_in, aGi, aGb, aSi, aLc_in, cKc_in, nA_in, jm_s1, jm_s2, jm_p1, jm_p2, jm_b, jn_b, jn_s, jn_p, jset_jset, jset_jpush2, ckR_is, ckr_is, rR_is, ckW_is, cR_is, obi2, ckW_int, eq_self, if_true, ref_null, if_false, ne_eq, not_true_eq_false, not_false_eq_true, decide_true, decide_false, decide_not, Bool.true_and, Bool.false_and, Bool.and_true, Bool.and_false, Bool.true_or, Bool.false_or, Bool.or_true, Bool.or_false, Bool.not_true, Bool.not_false, Bool.false_eq_true, bI_t, bI_f, Int.natCast_one, Int.cast_ofNat_Int, Int.natCast_zero, o23_0, o23_1, o23_2, o12_0, o12_1, o13_0, o13_1, o13_2, o13_3, o13_4, o13_5, o13_6, o14_0, o14_1, o14_2, o14_3, o14_4, o14_5, o3_0, o3_1, o3_2, o3_3, o3_4, o11_0, o11_1, o11_2, o11_3, o4_0, o4_1, o4_2, o4_3, o4_4, o4_5, o4_6, o31_0, o32_0, o33_0, o34_0, o34_1, o34_2, o35_0, o35_1, o35_2, hm, w1, sq, m1', so, okZ_0]
    · rw [decide_eq_false (fun u => e1 (iff.mp u))] at sq
      have p0 := (pkZ_lt (nm := nm) (w := pk ub) W.sc).1
      obtain ⟨ln, qt, qk, qr, qc, z1, z2, -⟩ := id hS
      have z1' := hF.m z1
      obtain ⟨tb, hT, hg⟩ := z2.get hF TA.1 t1
      have SN := hS.n hF
      obtain ⟨n', f', qt', cap, mc, lst, y1, y2, y3, y4, y5, y6, y7⟩ := SN
      rw [z1'] at y1
      simp only [Option.some.injEq, Prod.mk.injEq, true_and] at y1
      obtain ⟨-, rfl⟩ := y1
      obtain ⟨tb2, tb3, tN⟩ := y7 (S (249 + r)) TA.1 t1
      have qe : qt' = qt := by have : (Value.ref qt : Value) = .ref qt' := y2; cases this; rfl
      subst qe
      have g2 := h_get (d := 0) y3 TA.1 (by omega) (by omega) (by omega)
      have tbe : tb2 = tb := by
        have := hg 0
        rw [g2, tb3] at this
        simp only [Option.some.injEq, Prod.mk.injEq, Sum.inl.injEq, Value.ref.injEq, and_true] at this
        exact this
      subst tbe
      obtain ⟨qn, qcs, qq, qb, u1, -⟩ := hT
      have u1' := hF.m u1
      have cf := c_colFind (d := d + 3) tN (h2.at hF) h3
      rw [show fnd (fun c => decide (nm (4 + 4 * S (249 + r) + c) = pk ub)) (S (4 + S (249 + r))).toNat 0 = skZ S nm (pk ub) (S (249 + r)) from rfl] at cf
      have sr := skZ_rg (nm := nm) (w := pk ub) (t := S (249 + r)) CO.2
      have dg := pk_dig (nm := nm) (w := pk ub) W.sc TA.1 TA.2
      have pd : pkD S nm (pk ub) (S (249 + r)) = skZ S nm (pk ub) (S (249 + r)) + 1 := by unfold pkD; rw [if_pos t1]
      have lt : lfT S r c = if skZ S nm (pk ub) (S (249 + r)) < 0 then false else decide (0 ≤ cellS S r (skZ S nm (pk ub) (S (249 + r)))) && soZ c.2.1 (cellS S r (skZ S nm (pk ub) (S (249 + r)))) c.2.2 := by
        unfold lfT
        rw [if_neg (by omega), if_neg (by omega), if_neg (by omega), if_neg (by omega), if_neg (by omega)]
        show (if (c.1 - 100) / p8 (S (249 + r)) % 8 - 1 < 0 then false else decide (0 ≤ cellS S r ((c.1 - 100) / p8 (S (249 + r)) % 8 - 1)) && soZ c.2.1 (cellS S r ((c.1 - 100) / p8 (S (249 + r)) % 8 - 1)) c.2.2) = _
        rw [show (c.1 - 100) / p8 (S (249 + r)) % 8 - 1 = skZ S nm (pk ub) (S (249 + r)) by rw [e2, show 100 + pkZ S nm (pk ub) - 100 = pkZ S nm (pk ub) by omega, dg, pd]; omega]
      rw [lt]
      generalize skZ S nm (pk ub) (S (249 + r)) = x at cf sr ⊢
      by_cases cx : x = -1
      · rw [if_pos (by omega), bZ_f]
        rw [cx] at cf
        simp (disch := first | assumption | omega | decide | exact okF_i | exact okF_r | exact okF_n | exact okF_j | rfl) only [jc_ref, rI_int, rR_ref, rR_null, rJ_long, ckR_ref, ckR_null, ckr_ref, ckr_null, ckW_int, ckW_ref, ckW_null, cI_ok, cR_ok, cR_null, cV_ok, cJ_ok, qH_eq, qD_in, aG_ref, aS_ref, aL_ref, pF_ref, cK_ref, cK_null, zI_lit, zJ_lit, zI_add, zI_sub, zI_mul, zI_neg, zI_eq, zI_lt, zI_le, Int.reduceLT, Int.reduceLE, Int.reduceAdd, Int.reduceSub, Int.reduceMul, Int.reduceNeg, Int.reduceEq, Int.reduceNe, reduceIte, jf_in, pFc_in, aGi, aGb, aSi, aLc_in, cKc_in, nA_in, jm_s1, jm_s2, jm_p1, jm_p2, jm_b, jn_b, jn_s, jn_p, jset_jset, jset_jpush2, ckR_is, ckr_is, rR_is, ckW_is, cR_is, obi2, ckW_int, eq_self, if_true, ref_null, if_false, ne_eq, not_true_eq_false, not_false_eq_true, decide_true, decide_false, decide_not, Bool.true_and, Bool.false_and, Bool.and_true, Bool.and_false, Bool.true_or, Bool.false_or, Bool.or_true, Bool.or_false, Bool.not_true, Bool.not_false, Bool.false_eq_true, bI_t, bI_f, Int.natCast_one, Int.cast_ofNat_Int, Int.natCast_zero, o23_0, o23_1, o23_2, o12_0, o12_1, o13_0, o13_1, o13_2, o13_3, o13_4, o13_5, o13_6, o14_0, o14_1, o14_2, o14_3, o14_4, o14_5, o3_0, o3_1, o3_2, o3_3, o3_4, o11_0, o11_1, o11_2, o11_3, o4_0, o4_1, o4_2, o4_3, o4_4, o4_5, o4_6, o31_0, o32_0, o33_0, o34_0, o34_1, o34_2, o35_0, o35_1, o35_2, hm, w1, sq, a0, z1', m1', hg, u1', cf]
      · rw [if_neg (by omega)]
        have m3' := m3 x (by omega) (by omega)
        have cr := W.cell r0 r1 (show 0 ≤ x by omega) (show x < 4 by omega)
        by_cases ho : cellS S r x = -1
        · have m3'' := m3'
          rw [show (fun c => S (348 + 4 * r + c)) x = cellS S r x from rfl, ho] at m3''
          rw [decide_eq_false (by omega), Bool.false_and, bZ_f]
          simp (disch := first | assumption | omega | decide | exact okF_i | exact okF_r | exact okF_n | exact okF_j | rfl) only [jc_ref, rI_int, rR_ref, rR_null, rJ_long, ckR_ref, ckR_null, ckr_ref, ckr_null, ckW_int, ckW_ref, ckW_null, cI_ok, cR_ok, cR_null, cV_ok, cJ_ok, qH_eq, qD_in, aG_ref, aS_ref, aL_ref, pF_ref, cK_ref, cK_null, zI_lit, zJ_lit, zI_add, zI_sub, zI_mul, zI_neg, zI_eq, zI_lt, zI_le, Int.reduceLT, Int.reduceLE, Int.reduceAdd, Int.reduceSub, Int.reduceMul, Int.reduceNeg, Int.reduceEq, Int.reduceNe, reduceIte, jf_in, pFc_in, aGi, aGb, aSi, aLc_in, cKc_in, nA_in, jm_s1, jm_s2, jm_p1, jm_p2, jm_b, jn_b, jn_s, jn_p, jset_jset, jset_jpush2, ckR_is, ckr_is, rR_is, ckW_is, cR_is, obi2, ckW_int, eq_self, if_true, ref_null, if_false, ne_eq, not_true_eq_false, not_false_eq_true, decide_true, decide_false, decide_not, Bool.true_and, Bool.false_and, Bool.and_true, Bool.and_false, Bool.true_or, Bool.false_or, Bool.or_true, Bool.or_false, Bool.not_true, Bool.not_false, Bool.false_eq_true, bI_t, bI_f, Int.natCast_one, Int.cast_ofNat_Int, Int.natCast_zero, o23_0, o23_1, o23_2, o12_0, o12_1, o13_0, o13_1, o13_2, o13_3, o13_4, o13_5, o13_6, o14_0, o14_1, o14_2, o14_3, o14_4, o14_5, o3_0, o3_1, o3_2, o3_3, o3_4, o11_0, o11_1, o11_2, o11_3, o4_0, o4_1, o4_2, o4_3, o4_4, o4_5, o4_6, o31_0, o32_0, o33_0, o34_0, o34_1, o34_2, o35_0, o35_1, o35_2, hm, w1, sq, a0, z1', m1', m2', hg, u1', cf, cx, m3'']
        · have so := c_isSo (d := d + 4) (c := cellS S r x) (k := c.2.1) (n := c.2.2) ⟨by omega, by omega⟩ ⟨by omega, by omega⟩ ⟨by omega, by omega⟩ (H := H)
          have m3'' : rg x = cellS S r x := m3'
          rw [decide_eq_true (by omega), Bool.true_and]
          generalize soZ c.2.1 (cellS S r x) c.2.2 = tr at so ⊢
          cases tr with
          | true => rw [bZ_t]; simp (disch := first | assumption | omega | decide | exact okF_i | exact okF_r | exact okF_n | exact okF_j | rfl) only [jc_ref, rI_int, rR_ref, rR_null, rJ_long, ckR_ref, ckR_null, ckr_ref, ckr_null, ckW_int, ckW_ref, ckW_null, cI_ok, cR_ok, cR_null, cV_ok, cJ_ok, qH_eq, qD_in, aG_ref, aS_ref, aL_ref, pF_ref, cK_ref, cK_null, zI_lit, zJ_lit, zI_add, zI_sub, zI_mul, zI_neg, zI_eq, zI_lt, zI_le, Int.reduceLT, Int.reduceLE, Int.reduceAdd, Int.reduceSub, Int.reduceMul, Int.reduceNeg, Int.reduceEq, Int.reduceNe, reduceIte, jf_in, pFc_in, aGi, aGb, aSi, aLc_in, cKc_in, nA_in, jm_s1, jm_s2, jm_p1, jm_p2, jm_b, jn_b, jn_s, jn_p, jset_jset, jset_jpush2, ckR_is, ckr_is, rR_is, ckW_is, cR_is, obi2, ckW_int, eq_self, if_true, ref_null, if_false, ne_eq, not_true_eq_false, not_false_eq_true, decide_true, decide_false, decide_not, Bool.true_and, Bool.false_and, Bool.and_true, Bool.and_false, Bool.true_or, Bool.false_or, Bool.or_true, Bool.or_false, Bool.not_true, Bool.not_false, Bool.false_eq_true, bI_t, bI_f, Int.natCast_one, Int.cast_ofNat_Int, Int.natCast_zero, o23_0, o23_1, o23_2, o12_0, o12_1, o13_0, o13_1, o13_2, o13_3, o13_4, o13_5, o13_6, o14_0, o14_1, o14_2, o14_3, o14_4, o14_5, o3_0, o3_1, o3_2, o3_3, o3_4, o11_0, o11_1, o11_2, o11_3, o4_0, o4_1, o4_2, o4_3, o4_4, o4_5, o4_6, o31_0, o32_0, o33_0, o34_0, o34_1, o34_2, o35_0, o35_1, o35_2, hm, w1, sq, a0, z1', m1', m2', hg, u1', cf, cx, m3'', ho, so]
          | false => rw [bZ_f]; simp (disch := first | assumption | omega | decide | exact okF_i | exact okF_r | exact okF_n | exact okF_j | rfl) only [jc_ref, rI_int, rR_ref, rR_null, rJ_long, ckR_ref, ckR_null, ckr_ref, ckr_null, ckW_int, ckW_ref, ckW_null, cI_ok, cR_ok, cR_null, cV_ok, cJ_ok, qH_eq, qD_in, aG_ref, aS_ref, aL_ref, pF_ref, cK_ref, cK_null, zI_lit, zJ_lit, zI_add, zI_sub, zI_mul, zI_neg, zI_eq, zI_lt, zI_le, Int.reduceLT, Int.reduceLE, Int.reduceAdd, Int.reduceSub, Int.reduceMul, Int.reduceNeg, Int.reduceEq, Int.reduceNe, reduceIte, jf_in, pFc_in, aGi, aGb, aSi, aLc_in, cKc_in, nA_in, jm_s1, jm_s2, jm_p1, jm_p2, jm_b, jn_b, jn_s, jn_p, jset_jset, jset_jpush2, ckR_is, ckr_is, rR_is, ckW_is, cR_is, obi2, ckW_int, eq_self, if_true, ref_null, if_false, ne_eq, not_true_eq_false, not_false_eq_true, decide_true, decide_false, decide_not, Bool.true_and, Bool.false_and, Bool.and_true, Bool.and_false, Bool.true_or, Bool.false_or, Bool.or_true, Bool.or_false, Bool.not_true, Bool.not_false, Bool.false_eq_true, bI_t, bI_f, Int.natCast_one, Int.cast_ofNat_Int, Int.natCast_zero, o23_0, o23_1, o23_2, o12_0, o12_1, o13_0, o13_1, o13_2, o13_3, o13_4, o13_5, o13_6, o14_0, o14_1, o14_2, o14_3, o14_4, o14_5, o3_0, o3_1, o3_2, o3_3, o3_4, o11_0, o11_1, o11_2, o11_3, o4_0, o4_1, o4_2, o4_3, o4_4, o4_5, o4_6, o31_0, o32_0, o33_0, o34_0, o34_1, o34_2, o35_0, o35_1, o35_2, hm, w1, sq, a0, z1', m1', m2', hg, u1', cf, cx, m3'', ho, so]
theorem evS_app {P : Cd → Bool} : ∀ (x cs : List Cd) (s : List Bool), evS P (x ++ cs) s = evS P cs (evS P x s) := by
  intro x
  induction x with
  | nil => intro cs s; rfl
  | cons c x ih => intro cs s; show evS P (x ++ cs) _ = evS P cs (evS P x _); exact ih _ _
/-- a sentence is so of a row -/
theorem c_holds (W : StW S) (hF : Fzn F H) (hS : SchF F q S nm) (hE : EnvS F (je H)) (s0 : SH H a (.ref q) ins on l1 l2 l3 wl bs) (hRo : RowsF F l1 S 150 348 ra) (haH : l1.length ≤ 40) (hbs : ∀ k : Int, 0 ≤ k → k < 99 → bs k.toNat = (violS S true).any (fun v => decide (v.2.2 = k))) (r0 : 0 ≤ r) (r1 : r < 99) (r2 : S (150 + r) = 1) :
    ∀ (n : Nat) (b : Nat) (x : List Cd), CondF F S nm n b x → (∀ c ∈ x, c.1 = 20 ∨ c.1 = 21 ∨ c.1 = 22 ∨ LfW S nm c) → ∃ v : Bool, (∀ s, evS (lfT S r) x s = v :: s) ∧ ∀ d, MvH (d + 6 + n) 9104 [.ref b, .ref a, .ref (ra r)] H = some (.inl (some (.int (zI (bZ v)))), H) := by
  intro n
  induction n with
  | zero => intro b x h; exact h.elim
  | succ n ih =>
    intro b x h hx
    rcases h with ⟨c, rfl, h2⟩ | ⟨b1, x1, h1, rfl, h3⟩ | ⟨b1, b2, x1, x2, v, h1, h2, rfl, h4, h5⟩
    · have p0 := fun w => (pkZ_lt (nm := nm) (w := w) W.sc).1
      have k : c.1 ≠ 20 ∧ c.1 ≠ 21 ∧ c.1 ≠ 22 := by
        rcases h2 with ⟨e, -⟩ | ⟨e, -⟩ | ⟨u, ub, -, -, -, e | e⟩
        · omega
        · omega
        · omega
        · have := p0 (pk ub); omega
      have lw : LfW S nm c := by
        rcases hx c (List.mem_cons_self) with e | e | e | e
        · exact absurd e k.1
        · exact absurd e k.2.1
        · exact absurd e k.2.2
        · exact e
      refine ⟨lfT S r c, fun s => ?_, fun d => ?_⟩
      · show (if c.1 = 20 then (!s.headD false) :: s.tail else if c.1 = 21 then (s.tail.headD false && s.headD false) :: s.tail.tail else if c.1 = 22 then (s.tail.headD false || s.headD false) :: s.tail.tail else lfT S r c :: s) = _
        rw [if_neg k.1, if_neg k.2.1, if_neg k.2.2]
      · rw [show d + 6 + (n + 1) = (d + (n + 1)) + 6 by omega]
        exact c_leaf W hF hS hE s0 hRo (fun _ _ => trivial) haH hbs r0 r1 r2 h2 lw
    · obtain ⟨v, e1, e2⟩ := ih b1 x1 h3 fun c hc => hx c (List.mem_append_left _ hc)
      have hm := hF.m h1
      have rv : (jtRecv 31000).elem 31 = true := rfl
      refine ⟨!v, fun s => ?_, fun d => ?_⟩
      · rw [evS_app, e1]; rfl
      · have mv : MvH (d + 6 + (n + 1)) 9104 [.ref b, .ref a, .ref (ra r)] H = M2 (d + 6 + (n + 1)) 31000 [.ref b, .ref a, .ref (ra r)] H := by simp only [MvH, hm]; rfl
        have e2' := e2 d
        rw [mv, show d + 6 + (n + 1) = (d + 6 + n) + 1 by omega, Y31000 H rfl rfl (jrecv_in hm rv), F31000_0]
        cases v with
        | true => rw [bZ_t] at e2'; show _ = (some (.inl (some (.int (zI (bZ false)))), H) : Rz); rw [bZ_f]; simp (disch := first | assumption | omega | decide | exact okF_i | exact okF_r | exact okF_n | exact okF_j | rfl) only [jc_ref, rI_int, rR_ref, rR_null, rJ_long, ckR_ref, ckR_null, ckr_ref, ckr_null, ckW_int, ckW_ref, ckW_null, cI_ok, cR_ok, cR_null, cV_ok, cJ_ok, qH_eq, qD_in, aG_ref, aS_ref, aL_ref, pF_ref, cK_ref, cK_null, zI_lit, zJ_lit, zI_add, zI_sub, zI_mul, zI_neg, zI_eq, zI_lt, zI_le, Int.reduceLT, Int.reduceLE, Int.reduceAdd, Int.reduceSub, Int.reduceMul, Int.reduceNeg, Int.reduceEq, Int.reduceNe, reduceIte, jf_in, pFc_in, aGi, aGb, aSi, aLc_in, cKc_in, nA_in, jm_s1, jm_s2, jm_p1, jm_p2, jm_b, jn_b, jn_s, jn_p, jset_jset, jset_jpush2, ckR_is, ckr_is, rR_is, ckW_is, cR_is, obi2, ckW_int, eq_self, if_true, ref_null, if_false, ne_eq, not_true_eq_false, not_false_eq_true, decide_true, decide_false, decide_not, Bool.true_and, Bool.false_and, Bool.and_true, Bool.and_false, Bool.true_or, Bool.false_or, Bool.or_true, Bool.or_false, Bool.not_true, Bool.not_false, Bool.false_eq_true, bI_t, bI_f, Int.natCast_one, Int.cast_ofNat_Int, Int.natCast_zero, o23_0, o23_1, o23_2, o12_0, o12_1, o13_0, o13_1, o13_2, o13_3, o13_4, o13_5, o13_6, o14_0, o14_1, o14_2, o14_3, o14_4, o14_5, o3_0, o3_1, o3_2, o3_3, o3_4, o11_0, o11_1, o11_2, o11_3, o4_0, o4_1, o4_2, o4_3, o4_4, o4_5, o4_6, o31_0, o32_0, o33_0, o34_0, o34_1, o34_2, o35_0, o35_1, o35_2, hm, e2']
        | false => rw [bZ_f] at e2'; show _ = (some (.inl (some (.int (zI (bZ true)))), H) : Rz); rw [bZ_t]; simp (disch := first | assumption | omega | decide | exact okF_i | exact okF_r | exact okF_n | exact okF_j | rfl) only [jc_ref, rI_int, rR_ref, rR_null, rJ_long, ckR_ref, ckR_null, ckr_ref, ckr_null, ckW_int, ckW_ref, ckW_null, cI_ok, cR_ok, cR_null, cV_ok, cJ_ok, qH_eq, qD_in, aG_ref, aS_ref, aL_ref, pF_ref, cK_ref, cK_null, zI_lit, zJ_lit, zI_add, zI_sub, zI_mul, zI_neg, zI_eq, zI_lt, zI_le, Int.reduceLT, Int.reduceLE, Int.reduceAdd, Int.reduceSub, Int.reduceMul, Int.reduceNeg, Int.reduceEq, Int.reduceNe, reduceIte, jf_in, pFc_in, aGi, aGb, aSi, aLc_in, cKc_in, nA_in, jm_s1, jm_s2, jm_p1, jm_p2, jm_b, jn_b, jn_s, jn_p, jset_jset, jset_jpush2, ckR_is, ckr_is, rR_is, ckW_is, cR_is, obi2, ckW_int, eq_self, if_true, ref_null, if_false, ne_eq, not_true_eq_false, not_false_eq_true, decide_true, decide_false, decide_not, Bool.true_and, Bool.false_and, Bool.and_true, Bool.and_false, Bool.true_or, Bool.false_or, Bool.or_true, Bool.or_false, Bool.not_true, Bool.not_false, Bool.false_eq_true, bI_t, bI_f, Int.natCast_one, Int.cast_ofNat_Int, Int.natCast_zero, o23_0, o23_1, o23_2, o12_0, o12_1, o13_0, o13_1, o13_2, o13_3, o13_4, o13_5, o13_6, o14_0, o14_1, o14_2, o14_3, o14_4, o14_5, o3_0, o3_1, o3_2, o3_3, o3_4, o11_0, o11_1, o11_2, o11_3, o4_0, o4_1, o4_2, o4_3, o4_4, o4_5, o4_6, o31_0, o32_0, o33_0, o34_0, o34_1, o34_2, o35_0, o35_1, o35_2, hm, e2']
    · obtain ⟨v1, e1, e2⟩ := ih b1 x1 h4 fun c hc => hx c (List.mem_append_left _ (List.mem_append_left _ hc))
      obtain ⟨v2, e3, e4⟩ := ih b2 x2 h5 fun c hc => hx c (List.mem_append_left _ (List.mem_append_right _ hc))
      have hm := hF.m h1
      have rv : (jtRecv 35000).elem 35 = true := rfl
      have mv : ∀ d, MvH (d + 6 + (n + 1)) 9104 [.ref b, .ref a, .ref (ra r)] H = M2 (d + 6 + (n + 1)) 35000 [.ref b, .ref a, .ref (ra r)] H := fun d => by simp only [MvH, hm]; rfl
      rcases h2 with rfl | rfl
      · refine ⟨v1 && v2, fun s => ?_, fun d => ?_⟩
        · rw [evS_app, evS_app, e1, e3]; rfl
        · have e2' := e2 d
          have e4' := e4 d
          rw [show (22 : Int) - 21 = 1 from rfl] at hm
          rw [mv, show d + 6 + (n + 1) = (d + 6 + n) + 1 by omega, Y35000 H rfl rfl (jrecv_in hm rv), F35000_0]
          cases v1 with
          | false => rw [bZ_f] at e2'; rw [Bool.false_and, bZ_f]; simp (disch := first | assumption | omega | decide | exact okF_i | exact okF_r | exact okF_n | exact okF_j | rfl) only [jc_ref, rI_int, rR_ref, rR_null, rJ_long, ckR_ref, ckR_null, ckr_ref, ckr_null, ckW_int, ckW_ref, ckW_null, cI_ok, cR_ok, cR_null, cV_ok, cJ_ok, qH_eq, qD_in, aG_ref, aS_ref, aL_ref, pF_ref, cK_ref, cK_null, zI_lit, zJ_lit, zI_add, zI_sub, zI_mul, zI_neg, zI_eq, zI_lt, zI_le, Int.reduceLT, Int.reduceLE, Int.reduceAdd, Int.reduceSub, Int.reduceMul, Int.reduceNeg, Int.reduceEq, Int.reduceNe, reduceIte, jf_in, pFc_in, aGi, aGb, aSi, aLc_in, cKc_in, nA_in, jm_s1, jm_s2, jm_p1, jm_p2, jm_b, jn_b, jn_s, jn_p, jset_jset, jset_jpush2, ckR_is, ckr_is, rR_is, ckW_is, cR_is, obi2, ckW_int, eq_self, if_true, ref_null, if_false, ne_eq, not_true_eq_false, not_false_eq_true, decide_true, decide_false, decide_not, Bool.true_and, Bool.false_and, Bool.and_true, Bool.and_false, Bool.true_or, Bool.false_or, Bool.or_true, Bool.or_false, Bool.not_true, Bool.not_false, Bool.false_eq_true, bI_t, bI_f, Int.natCast_one, Int.cast_ofNat_Int, Int.natCast_zero, o23_0, o23_1, o23_2, o12_0, o12_1, o13_0, o13_1, o13_2, o13_3, o13_4, o13_5, o13_6, o14_0, o14_1, o14_2, o14_3, o14_4, o14_5, o3_0, o3_1, o3_2, o3_3, o3_4, o11_0, o11_1, o11_2, o11_3, o4_0, o4_1, o4_2, o4_3, o4_4, o4_5, o4_6, o31_0, o32_0, o33_0, o34_0, o34_1, o34_2, o35_0, o35_1, o35_2, hm, e2']
          | true =>
            rw [bZ_t] at e2'
            rw [Bool.true_and]
            cases v2 with
            | true => rw [bZ_t] at e4' ⊢; simp (disch := first | assumption | omega | decide | exact okF_i | exact okF_r | exact okF_n | exact okF_j | rfl) only [jc_ref, rI_int, rR_ref, rR_null, rJ_long, ckR_ref, ckR_null, ckr_ref, ckr_null, ckW_int, ckW_ref, ckW_null, cI_ok, cR_ok, cR_null, cV_ok, cJ_ok, qH_eq, qD_in, aG_ref, aS_ref, aL_ref, pF_ref, cK_ref, cK_null, zI_lit, zJ_lit, zI_add, zI_sub, zI_mul, zI_neg, zI_eq, zI_lt, zI_le, Int.reduceLT, Int.reduceLE, Int.reduceAdd, Int.reduceSub, Int.reduceMul, Int.reduceNeg, Int.reduceEq, Int.reduceNe, reduceIte, jf_in, pFc_in, aGi, aGb, aSi, aLc_in, cKc_in, nA_in, jm_s1, jm_s2, jm_p1, jm_p2, jm_b, jn_b, jn_s, jn_p, jset_jset, jset_jpush2, ckR_is, ckr_is, rR_is, ckW_is, cR_is, obi2, ckW_int, eq_self, if_true, ref_null, if_false, ne_eq, not_true_eq_false, not_false_eq_true, decide_true, decide_false, decide_not, Bool.true_and, Bool.false_and, Bool.and_true, Bool.and_false, Bool.true_or, Bool.false_or, Bool.or_true, Bool.or_false, Bool.not_true, Bool.not_false, Bool.false_eq_true, bI_t, bI_f, Int.natCast_one, Int.cast_ofNat_Int, Int.natCast_zero, o23_0, o23_1, o23_2, o12_0, o12_1, o13_0, o13_1, o13_2, o13_3, o13_4, o13_5, o13_6, o14_0, o14_1, o14_2, o14_3, o14_4, o14_5, o3_0, o3_1, o3_2, o3_3, o3_4, o11_0, o11_1, o11_2, o11_3, o4_0, o4_1, o4_2, o4_3, o4_4, o4_5, o4_6, o31_0, o32_0, o33_0, o34_0, o34_1, o34_2, o35_0, o35_1, o35_2, hm, e2', e4']
            | false => rw [bZ_f] at e4' ⊢; simp (disch := first | assumption | omega | decide | exact okF_i | exact okF_r | exact okF_n | exact okF_j | rfl) only [jc_ref, rI_int, rR_ref, rR_null, rJ_long, ckR_ref, ckR_null, ckr_ref, ckr_null, ckW_int, ckW_ref, ckW_null, cI_ok, cR_ok, cR_null, cV_ok, cJ_ok, qH_eq, qD_in, aG_ref, aS_ref, aL_ref, pF_ref, cK_ref, cK_null, zI_lit, zJ_lit, zI_add, zI_sub, zI_mul, zI_neg, zI_eq, zI_lt, zI_le, Int.reduceLT, Int.reduceLE, Int.reduceAdd, Int.reduceSub, Int.reduceMul, Int.reduceNeg, Int.reduceEq, Int.reduceNe, reduceIte, jf_in, pFc_in, aGi, aGb, aSi, aLc_in, cKc_in, nA_in, jm_s1, jm_s2, jm_p1, jm_p2, jm_b, jn_b, jn_s, jn_p, jset_jset, jset_jpush2, ckR_is, ckr_is, rR_is, ckW_is, cR_is, obi2, ckW_int, eq_self, if_true, ref_null, if_false, ne_eq, not_true_eq_false, not_false_eq_true, decide_true, decide_false, decide_not, Bool.true_and, Bool.false_and, Bool.and_true, Bool.and_false, Bool.true_or, Bool.false_or, Bool.or_true, Bool.or_false, Bool.not_true, Bool.not_false, Bool.false_eq_true, bI_t, bI_f, Int.natCast_one, Int.cast_ofNat_Int, Int.natCast_zero, o23_0, o23_1, o23_2, o12_0, o12_1, o13_0, o13_1, o13_2, o13_3, o13_4, o13_5, o13_6, o14_0, o14_1, o14_2, o14_3, o14_4, o14_5, o3_0, o3_1, o3_2, o3_3, o3_4, o11_0, o11_1, o11_2, o11_3, o4_0, o4_1, o4_2, o4_3, o4_4, o4_5, o4_6, o31_0, o32_0, o33_0, o34_0, o34_1, o34_2, o35_0, o35_1, o35_2, hm, e2', e4']
      · refine ⟨v1 || v2, fun s => ?_, fun d => ?_⟩
        · rw [evS_app, evS_app, e1, e3]; rfl
        · have e2' := e2 d
          have e4' := e4 d
          rw [show (22 : Int) - 22 = 0 from rfl] at hm
          rw [mv, show d + 6 + (n + 1) = (d + 6 + n) + 1 by omega, Y35000 H rfl rfl (jrecv_in hm rv), F35000_0]
          cases v1 with
          | true => rw [bZ_t] at e2'; rw [Bool.true_or, bZ_t]; simp (disch := first | assumption | omega | decide | exact okF_i | exact okF_r | exact okF_n | exact okF_j | rfl) only [jc_ref, rI_int, rR_ref, rR_null, rJ_long, ckR_ref, ckR_null, ckr_ref, ckr_null, ckW_int, ckW_ref, ckW_null, cI_ok, cR_ok, cR_null, cV_ok, cJ_ok, qH_eq, qD_in, aG_ref, aS_ref, aL_ref, pF_ref, cK_ref, cK_null, zI_lit, zJ_lit, zI_add, zI_sub, zI_mul, zI_neg, zI_eq, zI_lt, zI_le, Int.reduceLT, Int.reduceLE, Int.reduceAdd, Int.reduceSub, Int.reduceMul, Int.reduceNeg, Int.reduceEq, Int.reduceNe, reduceIte, jf_in, pFc_in, aGi, aGb, aSi, aLc_in, cKc_in, nA_in, jm_s1, jm_s2, jm_p1, jm_p2, jm_b, jn_b, jn_s, jn_p, jset_jset, jset_jpush2, ckR_is, ckr_is, rR_is, ckW_is, cR_is, obi2, ckW_int, eq_self, if_true, ref_null, if_false, ne_eq, not_true_eq_false, not_false_eq_true, decide_true, decide_false, decide_not, Bool.true_and, Bool.false_and, Bool.and_true, Bool.and_false, Bool.true_or, Bool.false_or, Bool.or_true, Bool.or_false, Bool.not_true, Bool.not_false, Bool.false_eq_true, bI_t, bI_f, Int.natCast_one, Int.cast_ofNat_Int, Int.natCast_zero, o23_0, o23_1, o23_2, o12_0, o12_1, o13_0, o13_1, o13_2, o13_3, o13_4, o13_5, o13_6, o14_0, o14_1, o14_2, o14_3, o14_4, o14_5, o3_0, o3_1, o3_2, o3_3, o3_4, o11_0, o11_1, o11_2, o11_3, o4_0, o4_1, o4_2, o4_3, o4_4, o4_5, o4_6, o31_0, o32_0, o33_0, o34_0, o34_1, o34_2, o35_0, o35_1, o35_2, hm, e2']
          | false =>
            rw [bZ_f] at e2'
            rw [Bool.false_or]
            cases v2 with
            | true => rw [bZ_t] at e4' ⊢; simp (disch := first | assumption | omega | decide | exact okF_i | exact okF_r | exact okF_n | exact okF_j | rfl) only [jc_ref, rI_int, rR_ref, rR_null, rJ_long, ckR_ref, ckR_null, ckr_ref, ckr_null, ckW_int, ckW_ref, ckW_null, cI_ok, cR_ok, cR_null, cV_ok, cJ_ok, qH_eq, qD_in, aG_ref, aS_ref, aL_ref, pF_ref, cK_ref, cK_null, zI_lit, zJ_lit, zI_add, zI_sub, zI_mul, zI_neg, zI_eq, zI_lt, zI_le, Int.reduceLT, Int.reduceLE, Int.reduceAdd, Int.reduceSub, Int.reduceMul, Int.reduceNeg, Int.reduceEq, Int.reduceNe, reduceIte, jf_in, pFc_in, aGi, aGb, aSi, aLc_in, cKc_in, nA_in, jm_s1, jm_s2, jm_p1, jm_p2, jm_b, jn_b, jn_s, jn_p, jset_jset, jset_jpush2, ckR_is, ckr_is, rR_is, ckW_is, cR_is, obi2, ckW_int, eq_self, if_true, ref_null, if_false, ne_eq, not_true_eq_false, not_false_eq_true, decide_true, decide_false, decide_not, Bool.true_and, Bool.false_and, Bool.and_true, Bool.and_false, Bool.true_or, Bool.false_or, Bool.or_true, Bool.or_false, Bool.not_true, Bool.not_false, Bool.false_eq_true, bI_t, bI_f, Int.natCast_one, Int.cast_ofNat_Int, Int.natCast_zero, o23_0, o23_1, o23_2, o12_0, o12_1, o13_0, o13_1, o13_2, o13_3, o13_4, o13_5, o13_6, o14_0, o14_1, o14_2, o14_3, o14_4, o14_5, o3_0, o3_1, o3_2, o3_3, o3_4, o11_0, o11_1, o11_2, o11_3, o4_0, o4_1, o4_2, o4_3, o4_4, o4_5, o4_6, o31_0, o32_0, o33_0, o34_0, o34_1, o34_2, o35_0, o35_1, o35_2, hm, e2', e4']
            | false => rw [bZ_f] at e4' ⊢; simp (disch := first | assumption | omega | decide | exact okF_i | exact okF_r | exact okF_n | exact okF_j | rfl) only [jc_ref, rI_int, rR_ref, rR_null, rJ_long, ckR_ref, ckR_null, ckr_ref, ckr_null, ckW_int, ckW_ref, ckW_null, cI_ok, cR_ok, cR_null, cV_ok, cJ_ok, qH_eq, qD_in, aG_ref, aS_ref, aL_ref, pF_ref, cK_ref, cK_null, zI_lit, zJ_lit, zI_add, zI_sub, zI_mul, zI_neg, zI_eq, zI_lt, zI_le, Int.reduceLT, Int.reduceLE, Int.reduceAdd, Int.reduceSub, Int.reduceMul, Int.reduceNeg, Int.reduceEq, Int.reduceNe, reduceIte, jf_in, pFc_in, aGi, aGb, aSi, aLc_in, cKc_in, nA_in, jm_s1, jm_s2, jm_p1, jm_p2, jm_b, jn_b, jn_s, jn_p, jset_jset, jset_jpush2, ckR_is, ckr_is, rR_is, ckW_is, cR_is, obi2, ckW_int, eq_self, if_true, ref_null, if_false, ne_eq, not_true_eq_false, not_false_eq_true, decide_true, decide_false, decide_not, Bool.true_and, Bool.false_and, Bool.and_true, Bool.and_false, Bool.true_or, Bool.false_or, Bool.or_true, Bool.or_false, Bool.not_true, Bool.not_false, Bool.false_eq_true, bI_t, bI_f, Int.natCast_one, Int.cast_ofNat_Int, Int.natCast_zero, o23_0, o23_1, o23_2, o12_0, o12_1, o13_0, o13_1, o13_2, o13_3, o13_4, o13_5, o13_6, o14_0, o14_1, o14_2, o14_3, o14_4, o14_5, o3_0, o3_1, o3_2, o3_3, o3_4, o11_0, o11_1, o11_2, o11_3, o4_0, o4_1, o4_2, o4_3, o4_4, o4_5, o4_6, o31_0, o32_0, o33_0, o34_0, o34_1, o34_2, o35_0, o35_1, o35_2, hm, e2', e4']
end
