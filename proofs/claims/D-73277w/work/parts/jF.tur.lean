/-! the face: begin, commit, back -/
-- jc_ref, rI_int, rR_ref, rR_null, rJ_long, ckR_ref, ckR_null, ckr_ref, ckr_null, ckW_int, ckW_ref, ckW_null, cI_ok, cR_ok, cR_null, cV_ok, cJ_ok, qH_eq, qD_in, aG_ref, aS_ref, aL_ref, pF_ref, cK_ref, cK_null, zI_lit, zJ_lit, zI_add, zI_sub, zI_mul, zI_neg, zI_eq, zI_lt, zI_le, Int.reduceLT, Int.reduceLE, Int.reduceAdd, Int.reduceSub, Int.reduceMul, Int.reduceNeg, Int.reduceEq, Int.reduceNe, reduceIte, jf_in, pFc_in, aGi, aGb, aSi, aLc_in, cKc_in, nA_in, jm_s1, jm_s2, jm_p1, jm_p2, jm_b, jn_b, jn_s, jn_p, jset_jset, jset_jpush2, ckR_is, ckr_is, rR_is, ckW_is, cR_is, obi2, ckW_int, eq_self, if_true, ref_null, if_false, ne_eq, not_true_eq_false, not_false_eq_true, decide_true, decide_false, decide_not, Bool.true_and, Bool.false_and, Bool.and_true, Bool.and_false, Bool.true_or, Bool.false_or, Bool.or_true, Bool.or_false, Bool.not_true, Bool.not_false, Bool.false_eq_true, bI_t, bI_f, Int.natCast_one, Int.cast_ofNat_Int, Int.natCast_zero, o2_0, o2_1, o2_2, o2_3, o2_4, o2_5, o2_6, o2_7, o2_8, o2_9, o2_10, o2_11, o2_12, o2_13, o2_14, o2_15, o2_16, o2_17, n2, o2s_0, o2s_1, o2s_2, o2s_3, o2s_4, o2s_5, o2s_6, o2s_7, o2s_8, o2s_9, o2s_10, o2s_11, o2s_12, o2s_13, o2s_14, o2s_15, o2s_16, o2s_17, o23_0, o23_1, o23_2, n23, o23s_0, o23s_1, o23s_2, o4_0, o4_1, o4_2, o4_3, o4_4, o4_5, o4_6, n4, o4s_0, o4s_1, o4s_2, o4s_3, o4s_4, o4s_5, o4s_6, o24_0, o24_1, o24_2, o24_3, o26_0, n26, o26s_0, o28_0, o22_0, o22_1, o22_2, o22_3, o22_4, o22_5, o47_0, o47_1, o47_2, o47_3, n47, o47s_0, o47s_1, o47s_2, o47s_3, o3_0, o3_1, o3_2, o3_3, o3_4, o12_0, o12_1, o13_0, o13_1, o13_2, o13_3, o13_4, o13_5, o13_6, o14_0, o14_1, o14_2, o14_3, o14_4, o14_5, o11_0, o11_1, o11_2, o11_3, o5_0, o5_1, o5_2, o5_3, o5_4, o5_5, o6_0, o6_1, o6_2, n6, o6s_0, o6s_1, o6s_2 = jc_ref, rI_int, rR_ref, rR_null, rJ_long, ckR_ref, ckR_null, ckr_ref, ckr_null, ckW_int, ckW_ref, ckW_null, cI_ok, cR_ok, cR_null, cV_ok, cJ_ok, qH_eq, qD_in, aG_ref, aS_ref, aL_ref, pF_ref, cK_ref, cK_null, zI_lit, zJ_lit, zI_add, zI_sub, zI_mul, zI_neg, zI_eq, zI_lt, zI_le, Int.reduceLT, Int.reduceLE, Int.reduceAdd, Int.reduceSub, Int.reduceMul, Int.reduceNeg, Int.reduceEq, Int.reduceNe, reduceIte, jf_in, pFc_in, aGi, aGb, aSi, aLc_in, cKc_in, nA_in, jm_s1, jm_s2, jm_p1, jm_p2, jm_b, jn_b, jn_s, jn_p, jset_jset, jset_jpush2, ckR_is, ckr_is, rR_is, ckW_is, cR_is, obi2, ckW_int, eq_self, if_true, ref_null, if_false, ne_eq, not_true_eq_false, not_false_eq_true, decide_true, decide_false, decide_not, Bool.true_and, Bool.false_and, Bool.and_true, Bool.and_false, Bool.true_or, Bool.false_or, Bool.or_true, Bool.or_false, Bool.not_true, Bool.not_false, Bool.false_eq_true, bI_t, bI_f, Int.natCast_one, Int.cast_ofNat_Int, Int.natCast_zero, o2_0, o2_1, o2_2, o2_3, o2_4, o2_5, o2_6, o2_7, o2_8, o2_9, o2_10, o2_11, o2_12, o2_13, o2_14, o2_15, o2_16, o2_17, n2, o2s_0, o2s_1, o2s_2, o2s_3, o2s_4, o2s_5, o2s_6, o2s_7, o2s_8, o2s_9, o2s_10, o2s_11, o2s_12, o2s_13, o2s_14, o2s_15, o2s_16, o2s_17, o23_0, o23_1, o23_2, n23, o23s_0, o23s_1, o23s_2, o4_0, o4_1, o4_2, o4_3, o4_4, o4_5, o4_6, n4, o4s_0, o4s_1, o4s_2, o4s_3, o4s_4, o4s_5, o4s_6, o24_0, o24_1, o24_2, o24_3, o26_0, n26, o26s_0, o28_0, o22_0, o22_1, o22_2, o22_3, o22_4, o22_5, o47_0, o47_1, o47_2, o47_3, n47, o47s_0, o47s_1, o47s_2, o47s_3, o3_0, o3_1, o3_2, o3_3, o3_4, o12_0, o12_1, o13_0, o13_1, o13_2, o13_3, o13_4, o13_5, o13_6, o14_0, o14_1, o14_2, o14_3, o14_4, o14_5, o11_0, o11_1, o11_2, o11_3, o5_0, o5_1, o5_2, o5_3, o5_4, o5_5, o6_0, o6_1, o6_2, n6, o6s_0, o6s_1, o6s_2
/-- T': what was (T) is kept, S2 is what is -/
def LvT (T T' : Nat → Int → Int) (S2 : Int → Int) : Prop := TwE2 T T' ∧ T' 1 = T 1 ∧ T' 0 2 = T 0 2 ∧ T' 0 16 = T 0 16 ∧ (∀ i, 148 ≤ i → i < 1239 → T' 2 i = S2 i) ∧ (T' 0 44 = if T 0 44 = 8 then 8 else T 0 44 + 1) ∧ (∀ k : Nat, (k : Int) + 1 < T' 0 44 → ∀ i, 148 ≤ i → i < 1239 → imS T' k i = imS T (if T 0 44 = 8 then k + 1 else k) i) ∧ ∀ i, 148 ≤ i → i < 1239 → imS T' (T' 0 44 - 1) i = T 2 i
section
variable {d m : Nat} {h H H2 : AH} {x a b e n : Nat} {T T' X : Nat → Int → Int} {S S2 : Int → Int} {i k : Int} {P : Nat → Prop} {sc vl tq : Nat} {sen ver : Value} {seed : Int}
/-- the twin's keeping -/
theorem stQ_im {kk : Nat} (h20 : X 20 = T 20) (h44 : X 0 44 = T 0 44) (n0 : 0 ≤ T 0 44) (n8 : T 0 44 ≤ 8) (hk : ∀ i, 0 ≤ i → i < 1091 → X kk i = T 2 (148 + i)) (e20 : T' 20 = stQ X kk 20) (e44 : T' 0 44 = stQ X kk 0 44) :
    (T' 0 44 = if T 0 44 = 8 then 8 else T 0 44 + 1) ∧ (∀ k : Nat, (k : Int) + 1 < T' 0 44 → ∀ i, 148 ≤ i → i < 1239 → imS T' k i = imS T (if T 0 44 = 8 then k + 1 else k) i) ∧ ∀ i, 148 ≤ i → i < 1239 → imS T' (T' 0 44 - 1) i = T 2 i := by
  have s44 : shQ X 0 44 = if T 0 44 = 8 then 7 else T 0 44 := by
    unfold shQ
    rw [h44]
    by_cases c : T 0 44 = 8
    · rw [if_pos c, if_pos c, ts_eq, fset_eq]
    · rw [if_neg c, if_neg c, h44]
  have s20 : shQ X 20 = if T 0 44 = 8 then bl 0 7637 (fun x => T 20 (x + 1091)) (T 20) else T 20 := by
    unfold shQ
    rw [h44]
    by_cases c : T 0 44 = 8
    · rw [if_pos c, if_pos c, ts_ne (by decide), tg_eq, h20]
    · rw [if_neg c, if_neg c, h20]
  have q44 : stQ X kk 0 44 = shQ X 0 44 + 1 := by unfold stQ; rw [ts_eq, fset_eq]
  have q20 : stQ X kk 20 = bl (1091 * shQ X 0 44) (1091 * shQ X 0 44 + 1091) (fun x => X kk (x - 1091 * shQ X 0 44)) (shQ X 20) := by unfold stQ; rw [ts_ne (by decide), tg_eq]
  have n1 : T' 0 44 = (if T 0 44 = 8 then 7 else T 0 44) + 1 := by rw [e44, q44, s44]
  refine ⟨?_, fun k hk1 i i0 i1 => ?_, fun i i0 i1 => ?_⟩
  · rw [n1]; split <;> omega
  · unfold imS
    rw [if_neg (by omega), if_neg (by omega), e20, q20, s44, s20]
    unfold bl
    by_cases c : T 0 44 = 8
    · rw [if_pos c] at n1
      rw [if_pos c, if_pos c, if_pos c, if_neg (by omega), if_pos (by omega)]
      show T 20 (1091 * (k : Int) + (i - 148) + 1091) = T 20 (1091 * ((k : Int) + 1) + (i - 148))
      congr 1
      omega
    · rw [if_neg c] at n1
      rw [if_neg c, if_neg c, if_neg c, if_neg (by omega)]
  · unfold imS
    rw [if_neg (by omega), e20, q20, s44, n1]
    unfold bl
    by_cases c : T 0 44 = 8
    · rw [if_pos c, if_pos (by omega)]
      show X kk (1091 * (7 + 1 - 1) + (i - 148) - 1091 * 7) = T 2 i
      rw [hk _ (by omega) (by omega)]
      congr 1
      omega
    · rw [if_neg c, if_pos (by omega)]
      show X kk (1091 * (T 0 44 + 1 - 1) + (i - 148) - 1091 * T 0 44) = T 2 i
      rw [hk _ (by omega) (by omega)]
      congr 1
      omega
/-- what was tried lives -/
theorem face_lives (o : ObI x H T sc sen ver vl tq seed) (h1 : jm H (x + 1) = some (1010, 940, aI (T 1))) (h3 : PlG H (x + 30)) (h4 : FaceQ x H T sc sen ver vl tq) (W : StW (T 2)) (n0 : 0 ≤ T 0 44) (n8 : T 0 44 ≤ 8) (tr : StR (FcW x) H (x + 16) sc S2) (W2 : StW S2) (L : LvT T T' S2) :
    ∃ H2, M2 (d + 6) 2027 [.ref x] H = some (.inl none, H2) ∧ Fr H H2 (LvP x) ∧ H2.1 = H.1 ∧ H2.2.1 = H.2.1 ∧ (∃ sc sen ver vl tq seed, ObI x H2 T' sc sen ver vl tq seed ∧ jm H2 (x + 1) = some (1010, 940, aI (T' 1)) ∧ StG H2 (x + 16) ∧ PlG H2 (x + 30) ∧ FaceQ x H2 T' sc sen ver vl tq) := by
  obtain ⟨E, l1, l2, l3, l4, l5, l6, l7⟩ := L
  obtain ⟨p1, p2, p3⟩ := FaceQ.p.mp h4
  obtain ⟨H2, c1, c2, c3, c4, c5, c6, c7⟩ := c_lives (d := d) o p2 W p3 n0 n8 tr W2 (fun i hi => E.2.2.1 i (Or.inl hi)) l5 l6 l7
  have oH := o.1
  refine ⟨H2, c1, c2, c3, c4, sc, sen, ver, vl, tq, seed, ⟨Nat.le_trans oH c2.1, by rw [l2, l3]; exact c5, o.2.2⟩, by rw [l1]; exact (c2.2.2 _ (by omega) (fun e => by have := e.far; omega)).trans h1, tr.g.fr c2 (fun z hz e => by have := e.far; unfold StP at hz; omega), h3.fr c2 (fun z hz e => by have := e.far; unfold PlP at hz; omega), FaceQ.p.mpr ⟨(p1.fr c2 (fun z hz => ?_) oH).tw W E, c6.cg l4, c7⟩⟩
  have := hz.far
  unfold PlP StP
  exact ⟨hz.bf, by omega⟩
theorem tuS_W (W : StW S) : StW (tuS k S) := by
  unfold tuS
  split
  · split
    · exact W.bg
    · exact W
  · split
    · split
      · exact W
      · split
        · exact W.co0
        · exact W
    · split
      · exact W.bk
      · exact W
set_option maxRecDepth 8000 in
theorem c_turns (I : FaceI x H T) (W : TwI T) (hk : k = 0 ∨ k = 1 ∨ k = 2) (L : tuV k (T 2) = 0 → LvT T T' (tuS k (T 2))) :
    ∃ H2, M2 (d + 17) 2052 [.ref x, .int (zI k)] H = some (.inl (some (.int (zI (tuV k (T 2) % 10)))), H2) ∧ FaceI x H2 (if tuV k (T 2) = 0 then T' else T) ∧ (H2.1 : Int) ≤ H.1 + 9 + 80 * pvS (T 2) ∧ (H2.2.1 : Int) ≤ H.2.1 + 38 + 360 * pvS (T 2) := by
  obtain ⟨sc, sen, ver, vl, tq, seed, o, h1, h2, h3, h4⟩ := id I
  obtain ⟨-, ⟨W2, -, -⟩, ⟨n0, n8⟩, -⟩ := id W
  have m0 := o.2.1
  have oH := o.1
  obtain ⟨H1, hH1⟩ : ∃ H1, H1 = jpush H (26, 1, o26 0) := ⟨_, rfl⟩
  have mb1 : jm H1 H.1 = some (26, 1, o26 0) := by rw [hH1]; exact jm_p1
  have ck := ck_26900 (d := d + 13) (v := k) mb1
  obtain ⟨H2, hH2⟩ : ∃ H2, H2 = jset H1 H.1 (26, 1, o26 k) := ⟨_, rfl⟩
  rw [← hH2] at ck
  have mb2 : jm H2 H.1 = some (26, 1, o26 k) := by rw [hH2]; exact jm_s1
  have f2 : Fr H H2 (fun _ => False) := by rw [hH2, hH1]; exact Fr.new (P := fun _ => False) Fr.rf (Fr.push.tr (Fr.set (Or.inr (Nat.le_refl _))))
  have n2 : H2.1 = H.1 + 1 ∧ H2.2.1 = H.2.1 + 1 := by rw [hH2, hH1]; exact ⟨rfl, rfl⟩
  have o2' := o.fr f2 (fun z => z)
  have m2 := o2'.2.1
  have q2 := h4.fr f2 (fun z hz => hz.elim) oH n8
  have now2 := q2.2.2.2.1
  have triB : ∀ z, StP (x + 16) z → FcW x z := fun z hz => FcW.tri hz
  obtain ⟨H3, a1, a2, a3, a4, a5⟩ := st_as (d := d + 13) triB (h2.fr f2 (fun _ _ z => z)) now2 W2 (by omega)
  have f3 : Fr H2 H3 (fun z => z = x ∨ z = x + 1 ∨ StP (x + 16) z ∨ PlP (x + 30) z) := a3.mono fun z _ hz => Or.inr (Or.inr (Or.inl hz))
  have q3 := q2.fr f3 (fun z hz => hz) o2'.1 n8
  have hx3 : ¬ StP (x + 16) x := by unfold StP; omega
  have o3 := o2'.fr a3 hx3
  have m3 := o3.2.1
  have mb3 : jm H3 H.1 = some (26, 1, o26 k) := (a3.2.2 _ (by omega) (fun e => by unfold StP at e; omega)).trans mb2
  have l3 := a3.1
  obtain ⟨H4, t1, t2, t3, t4, t5⟩ := tu_does (d := d + 1) (p := x + 30) (k := k) triB (fun z hz => by have := hz.lt; omega) W2 q3.2.2.1 a2 mb3 hk (fun e => by unfold StP at e; omega) (by omega)
  have f4 : Fr H3 H4 (fun z => z = x ∨ z = x + 1 ∨ StP (x + 16) z ∨ PlP (x + 30) z) := t2.mono fun z _ hz => Or.inr (Or.inr (Or.inl hz))
  have q4 := q3.fr f4 (fun z hz => hz) o3.1 n8
  have o4 := o3.fr t2 hx3
  have m4 := o4.2.1
  have tp4 : jm H4 (x + 1) = some (1010, 940, aI (T 1)) := (t2.2.2 _ (by omega) (fun e => by unfold StP at e; omega)).trans ((a3.2.2 _ (by omega) (fun e => by unfold StP at e; omega)).trans ((f2.2.2 _ (by omega) fun z => z).trans h1))
  have pl4 : PlG H4 (x + 30) := ((h3.fr f2 (fun _ _ z => z)).fr a3 (fun z hz e => by unfold PlP at hz; unfold StP at e; omega)).fr t2 (fun z hz e => by unfold PlP at hz; unfold StP at e; omega)
  have t1' : M2 (d + 16) 26000 [.ref H.1, .ref (x + 16), .ref (x + 30)] H3 = some (.inl (some (.int (zI (tuV k (T 2))))), H4) := t1
  have t3' : StR (FcW x) H4 (x + 16) sc (tuS k (T 2)) := t3
  have rg : tuV k (T 2) = 0 ∨ tuV k (T 2) = 11 ∨ tuV k (T 2) = 21 ∨ tuV k (T 2) = 22 ∨ tuV k (T 2) = 31 := by
    unfold tuV
    split
    · split <;> omega
    · split
      · split
        · omega
        · split <;> omega
      · split <;> omega
  have pre : ∀ X : Rz, zcI (some (.inl (some (.int (zI (tuV k (T 2))))), H4)) (fun x9 h10 => zqD 10 (if (x9 - x9 / 10 * 10) = 0 then (zcV (M2 (d + 16) 2027 [.ref x] h10) (fun h12 => some (.inl (some (.int (x9 - x9 / 10 * 10))), h12)) ()) else (some (.inl (some (.int (x9 - x9 / 10 * 10))), h10))) ()) () = X → M2 (d + 17) 2052 [.ref x, .int (zI k)] H = X := by
    intro X hX
    rw [← hX, Y2052 H (rv2 (by rfl) m0), F2052_0]
    simp (disch := first | assumption | omega | decide | exact okF_i | exact okF_r | exact okF_n | exact okF_j | rfl) only [jc_ref, rI_int, rR_ref, rR_null, rJ_long, ckR_ref, ckR_null, ckr_ref, ckr_null, ckW_int, ckW_ref, ckW_null, cI_ok, cR_ok, cR_null, cV_ok, cJ_ok, qH_eq, qD_in, aG_ref, aS_ref, aL_ref, pF_ref, cK_ref, cK_null, zI_lit, zJ_lit, zI_add, zI_sub, zI_mul, zI_neg, zI_eq, zI_lt, zI_le, Int.reduceLT, Int.reduceLE, Int.reduceAdd, Int.reduceSub, Int.reduceMul, Int.reduceNeg, Int.reduceEq, Int.reduceNe, reduceIte, jf_in, pFc_in, aGi, aGb, aSi, aLc_in, cKc_in, nA_in, jm_s1, jm_s2, jm_p1, jm_p2, jm_b, jn_b, jn_s, jn_p, jset_jset, jset_jpush2, ckR_is, ckr_is, rR_is, ckW_is, cR_is, obi2, ckW_int, eq_self, if_true, ref_null, if_false, ne_eq, not_true_eq_false, not_false_eq_true, decide_true, decide_false, decide_not, Bool.true_and, Bool.false_and, Bool.and_true, Bool.and_false, Bool.true_or, Bool.false_or, Bool.or_true, Bool.or_false, Bool.not_true, Bool.not_false, Bool.false_eq_true, bI_t, bI_f, Int.natCast_one, Int.cast_ofNat_Int, Int.natCast_zero, o2_0, o2_1, o2_2, o2_3, o2_4, o2_5, o2_6, o2_7, o2_8, o2_9, o2_10, o2_11, o2_12, o2_13, o2_14, o2_15, o2_16, o2_17, n2, o2s_0, o2s_1, o2s_2, o2s_3, o2s_4, o2s_5, o2s_6, o2s_7, o2s_8, o2s_9, o2s_10, o2s_11, o2s_12, o2s_13, o2s_14, o2s_15, o2s_16, o2s_17, o23_0, o23_1, o23_2, n23, o23s_0, o23s_1, o23s_2, o4_0, o4_1, o4_2, o4_3, o4_4, o4_5, o4_6, n4, o4s_0, o4s_1, o4s_2, o4s_3, o4s_4, o4s_5, o4s_6, o24_0, o24_1, o24_2, o24_3, o26_0, n26, o26s_0, o28_0, o22_0, o22_1, o22_2, o22_3, o22_4, o22_5, o47_0, o47_1, o47_2, o47_3, n47, o47s_0, o47s_1, o47s_2, o47s_3, o3_0, o3_1, o3_2, o3_3, o3_4, o12_0, o12_1, o13_0, o13_1, o13_2, o13_3, o13_4, o13_5, o13_6, o14_0, o14_1, o14_2, o14_3, o14_4, o14_5, o11_0, o11_1, o11_2, o11_3, o5_0, o5_1, o5_2, o5_3, o5_4, o5_5, o6_0, o6_1, o6_2, n6, o6s_0, o6s_1, o6s_2, n26, ← hH1, ck, m2, a1, m3, t1']
  by_cases c : tuV k (T 2) = 0
  · obtain ⟨H5, l1, l2, l3, l4, l5⟩ := face_lives (d := d + 10) o4 tp4 pl4 q4 W2 n0 n8 t3' (tuS_W W2) (L c)
    rw [if_pos c]
    refine ⟨H5, pre _ ?_, l5, by omega, by omega⟩
    rw [c, cI_ok]
    show zqD (zI 10) (if (zI 0 - zI 0 / 10 * 10) = 0 then (zcV (M2 (d + 16) 2027 [.ref x] H4) (fun h12 => some (.inl (some (.int (zI 0 - zI 0 / 10 * 10))), h12)) ()) else (some (.inl (some (.int (zI 0 - zI 0 / 10 * 10))), H4))) () = _
    rw [qD_in (by decide) (by decide) (by decide), if_pos (by decide), l1, cV_ok]
    rfl
  · rw [if_neg c]
    refine ⟨H4, pre _ ?_, ⟨sc, sen, ver, vl, tq, seed, o4, tp4, t3'.g, pl4, q4⟩, by omega, by omega⟩
    rw [cI_ok]
    have st : ∀ v : Int, zI v - zI v / 10 * 10 ≠ 0 → zI v - zI v / 10 * 10 = zI (v % 10) → (zqD (zI 10) (if (zI v - zI v / 10 * 10) = 0 then (zcV (M2 (d + 16) 2027 [.ref x] H4) (fun h12 => some (.inl (some (.int (zI v - zI v / 10 * 10))), h12)) ()) else (some (.inl (some (.int (zI v - zI v / 10 * 10))), H4))) () : Rz) = some (.inl (some (.int (zI (v % 10)))), H4) := fun v h1 h2 => by
      rw [qD_in (by decide) (by decide) (by decide), if_neg h1, h2]
    rcases rg with e | e | e | e | e
    · exact absurd e c
    · rw [e]; exact st 11 (by decide) (by decide)
    · rw [e]; exact st 21 (by decide) (by decide)
    · rw [e]; exact st 22 (by decide) (by decide)
    · rw [e]; exact st 31 (by decide) (by decide)
end
