/-! the twin reads a book -/
section
variable {S S' L L' nm : Int → Int} {to : Int}
/-- a line told by other ints that agree where it lies -/
theorem LnW.cg (W : ScW S) (h : LnW S L to) (e : ∀ i, to ≤ i → i < to + 20 → L' i = L i) (e' : ∀ i, 0 ≤ i → i < 8 → S' i = S i) : LnW S' L' to := by
  obtain ⟨a, b, c, f⟩ := h
  have W0 := W.1
  have co := W.2 (L (to + 1)) b.1 (by omega)
  have e0 := e to (Int.le_refl _) (by omega)
  have e1 := e (to + 1) (by omega) (by omega)
  have e2 := e (to + 2) (by omega) (by omega)
  have e7 := e (to + 7) (by omega) (by omega)
  have s0 := e' 0 (by omega) (by omega)
  have s4 := e' (4 + L (to + 1)) (by omega) (by omega)
  have hb : 0 ≤ L' (to + 1) ∧ L' (to + 1) < S' 0 := by rw [e1, s0]; exact b
  have s4' : S' (4 + L' (to + 1)) = S (4 + L (to + 1)) := by rw [e1]; exact s4
  refine ⟨by rw [e0]; exact a, hb, fun z => ?_, fun z => ?_⟩
  · rw [e0] at z
    obtain ⟨p, q⟩ := c z
    refine ⟨hb, fun k k0 k1 => ?_⟩
    rw [s4'] at k1
    rw [e (to + 3 + k) (by omega) (by omega)]
    exact q k k0 k1
  · rw [e0] at z
    obtain ⟨⟨p1, p2⟩, s1, s2⟩ := f z
    refine ⟨⟨by rw [e7]; exact p1, fun k k0 k1 => ?_⟩, by rw [e2]; exact s1, fun k k0 k1 => ?_⟩
    · rw [e7] at k1
      rw [e (to + 8 + 3 * k) (by omega) (by omega), e (to + 8 + 3 * k + 1) (by omega) (by omega), e (to + 8 + 3 * k + 2) (by omega) (by omega), s4']
      exact p2 k k0 k1
    · rw [e2] at k1
      rw [e (to + 3 + 2 * k) (by omega) (by omega), e (to + 4 + 2 * k) (by omega) (by omega), s4']
      exact s2 k k0 k1
/-- lines of a book, all ahead of the n-th -/
def LkW (S L : Int → Int) (n : Int) : Prop := ∀ i, 0 ≤ i → i < n → (0 ≤ L (20 * i) ∧ L (20 * i) ≤ 5) ∧ (L (20 * i) < 3 → LnW S L (20 * i))
theorem LkW.cg {n : Int} (W : ScW S) (h : LkW S L n) (e : ∀ i, 0 ≤ i → i < 20 * n → L' i = L i) (e' : ∀ i, 0 ≤ i → i < 8 → S' i = S i) : LkW S' L' n := fun i i0 i1 => by
  obtain ⟨a, b⟩ := h i i0 i1
  have e0 := e (20 * i) (by omega) (by omega)
  exact ⟨by rw [e0]; exact a, fun z => (b (by rw [← e0]; exact z)).cg W (fun j j0 j1 => e j (by omega) (by omega)) e'⟩
theorem bkP_ok {g : Int → Int} {z l n q : Int} {a : LQ} (W : ScW S) (h : bkP g z l S nm L n q = .ok a) : n ≠ 40 ∧ ((0 ≤ a.1 (20 * n) ∧ a.1 (20 * n) ≤ 5) ∧ (a.1 (20 * n) < 3 → LnW S a.1 (20 * n))) := by
  unfold bkP at h
  have key : ∀ v : Int, 3 ≤ v → v ≤ 5 → (if n = 40 then (.error (erx g z l q 4) : Except Er LQ) else .ok (fset L (20 * n) v, nxt g z l q)) = .ok a → n ≠ 40 ∧ ((0 ≤ a.1 (20 * n) ∧ a.1 (20 * n) ≤ 5) ∧ (a.1 (20 * n) < 3 → LnW S a.1 (20 * n))) := fun v v0 v1 x => by
    by_cases c : n = 40
    · rw [if_pos c] at x; cases x
    · rw [if_neg c] at x
      cases x
      refine ⟨c, ?_, ?_⟩
      · show 0 ≤ fset L (20 * n) v (20 * n) ∧ fset L (20 * n) v (20 * n) ≤ 5
        rw [fset_eq]; omega
      · show fset L (20 * n) v (20 * n) < 3 → _
        rw [fset_eq]; intro; omega
  by_cases c1 : isW g z l q wBEG = true
  · rw [if_pos c1] at h; exact key 3 (by omega) (by omega) h
  · rw [if_neg c1] at h
    by_cases c2 : isW g z l q wCOM = true
    · rw [if_pos c2] at h; exact key 4 (by omega) (by omega) h
    · rw [if_neg c2] at h
      by_cases c3 : isW g z l q wBAK = true
      · rw [if_pos c3] at h; exact key 5 (by omega) (by omega) h
      · rw [if_neg c3] at h
        by_cases c4 : isW g z l q wINSERT = true ∨ isW g z l q wDELETE = true ∨ isW g z l q wSET = true
        · rw [if_pos c4] at h
          by_cases c : n = 40
          · rw [if_pos c] at h; cases h
          · rw [if_neg c] at h
            have := stm_W W h
            exact ⟨c, ⟨this.1.1, by have := this.1.2; omega⟩, fun _ => this⟩
        · rw [if_neg c4] at h; cases h
end
/-- what reading a book changes -/
def BF (T T' : Nat → Int → Int) : Prop := (∀ k, k ≠ 0 → k ≠ 5 → T' k = T k) ∧ ∀ i : Int, (i ≤ 3 ∨ i = 5 ∨ i = 20 ∨ 23 ≤ i) → i ≠ 52 → T' 0 i = T 0 i
theorem BF.rf {T : Nat → Int → Int} : BF T T := ⟨fun _ _ _ => rfl, fun _ _ _ => rfl⟩
theorem BF.tr {T X Y : Nat → Int → Int} (a : BF T X) (b : BF X Y) : BF T Y := ⟨fun k k0 k5 => (b.1 k k0 k5).trans (a.1 k k0 k5), fun i hi h => (b.2 i hi h).trans (a.2 i hi h)⟩
theorem BF.lf {to : Int} {T X : Nat → Int → Int} (a : LF to T X) : BF T X := ⟨a.1, fun i hi _ => a.2.1 i hi⟩
theorem BF.pf {T X : Nat → Int → Int} (a : PF T X) : BF T X := ⟨fun k k0 _ => a.1 k k0, fun i hi _ => a.2 i hi⟩
theorem BF.s {T : Nat → Int → Int} {v : Int} : BF T (ts T 0 52 v) := ⟨fun k k0 _ => ts_ne k0, fun i _ h => by rw [ts_eq, fset_ne h]⟩
section
variable {g : Int → Int} {z l : Int} {d m : Nat} {h : AH}
theorem bo_39 {i1 : Int32} : ∀ (j : Nat) (T : Nat → Int → Int) (n q : Int), Rd g z l T q → ScW (T 2) → T 0 52 = n → 0 ≤ n → n ≤ 40 → n + j = 41 → LkW (T 2) (T 5) n →
    ∃ T', BF T T' ∧ match bksP g z l (T 2) (T 6) j (T 5) n q with
      | .error e => G (d + 9) 7007 39 [.ref m, .int i1, jno, jno] [] (tw m T h) = some (.inl (some (.int (zI (-2 - e.2)))), tw m T' h) ∧ Fl T' e
      | .ok a => G (d + 9) 7007 39 [.ref m, .int i1, jno, jno] [] (tw m T h) = G (d + 9) 7007 85 [.ref m, .int i1, .int (zI 0), jno] [] (tw m T' h) ∧ T' 5 = a.1 ∧ T' 0 52 = a.2 ∧ T' 0 16 = 0 ∧ (0 ≤ a.2 ∧ a.2 ≤ 40) ∧ LkW (T 2) a.1 a.2 := by
  intro j
  induction j with
  | zero => intro T n q R W hn n0 n4 hj; omega
  | succ j ih =>
    intro T n q R W hn n0 n4 hj K
    have hk := R.k12
    obtain ⟨k0, k4⟩ := kd_rg (g := g) (z := z) (l := l) q
    unfold bksP
    by_cases c0 : kd g z l q = 0
    · rw [if_pos c0]
      refine ⟨T, BF.rf, ?_, rfl, hn, R.2.2.2.2.2, ⟨n0, n4⟩, K⟩
      conv => lhs; rw [E7007_39]
      simp (disch := omega) only [jc_ref, rI_int, rR_ref, rR_null, rJ_long, ckR_ref, ckR_null, ckr_ref, ckr_null, ckW_int, ckW_ref, ckW_null, cI_ok, cR_ok, cR_null, cV_ok, cJ_ok, qH_eq, qD_in, aG_ref, aS_ref, aL_ref, pF_ref, cK_ref, cK_null, zI_lit, zJ_lit, zI_add, zI_sub, zI_mul, zI_neg, zI_eq, zI_lt, zI_le, Int.reduceLT, Int.reduceLE, Int.reduceAdd, Int.reduceSub, Int.reduceMul, Int.reduceNeg, Int.reduceEq, Int.reduceNe, reduceIte, tw_0, tw_1, tw_2, tw_3, tw_4, tw_5, tw_6, tw_7, tw_8, tw_9, tw_10, tw_11, tw_12, tw_13, tw_14, tw_15, tw_16, tw_17, tw_18, tw_19, tw_20, tw_21, tw_22, tw_23, tw_24, tw_25, tw_26, tw_27, tw_28, tw_29, tw_30, tw_31, ob_0, ob_1, ob_2, ob_3, ob_4, ob_5, ob_6, ob_7, ob_8, ob_9, ob_10, ob_11, ob_12, ob_13, ob_14, ob_15, ob_16, ob_17, ob_18, ob_19, ob_20, ob_21, ob_22, ob_23, ob_24, ob_25, ob_26, ob_27, ob_28, ob_29, ob_30, ob_31, ob_32, ob_33, ob_34, ob_35, ob_36, ob_37, ob_38, ob_39, ob_40, ob_41, ob_42, ob_43, ob_44, ob_45, ob_46, ob_47, ob_48, ob_49, ob_50, ob_51, ob_52, ob_53, ob_54, ob_55, ob_56, ob_57, ob_58, ob_59, ob_60, ob_61, ob_62, ob_63, ob_64, ob_65, jf7, aGi, aGb, aGz, aGj, leT, leF, ltT, ltF, eqT, eqF, hk, c0]
    · rw [if_neg c0]
      have bl := tm_bookLine (d := d) (m := m) (h := h) R W hn n0 n4
      cases hb : bkP g z l (T 2) (T 6) (T 5) n q with
      | error e =>
        rw [hb] at bl
        obtain ⟨T1, b1, b2, b3⟩ := bl
        refine ⟨T1, BF.lf b2, ?_, b3⟩
        have f17 := b3.2
        rw [E7007_39]
        simp (disch := omega) only [jc_ref, rI_int, rR_ref, rR_null, rJ_long, ckR_ref, ckR_null, ckr_ref, ckr_null, ckW_int, ckW_ref, ckW_null, cI_ok, cR_ok, cR_null, cV_ok, cJ_ok, qH_eq, qD_in, aG_ref, aS_ref, aL_ref, pF_ref, cK_ref, cK_null, zI_lit, zJ_lit, zI_add, zI_sub, zI_mul, zI_neg, zI_eq, zI_lt, zI_le, Int.reduceLT, Int.reduceLE, Int.reduceAdd, Int.reduceSub, Int.reduceMul, Int.reduceNeg, Int.reduceEq, Int.reduceNe, reduceIte, tw_0, tw_1, tw_2, tw_3, tw_4, tw_5, tw_6, tw_7, tw_8, tw_9, tw_10, tw_11, tw_12, tw_13, tw_14, tw_15, tw_16, tw_17, tw_18, tw_19, tw_20, tw_21, tw_22, tw_23, tw_24, tw_25, tw_26, tw_27, tw_28, tw_29, tw_30, tw_31, ob_0, ob_1, ob_2, ob_3, ob_4, ob_5, ob_6, ob_7, ob_8, ob_9, ob_10, ob_11, ob_12, ob_13, ob_14, ob_15, ob_16, ob_17, ob_18, ob_19, ob_20, ob_21, ob_22, ob_23, ob_24, ob_25, ob_26, ob_27, ob_28, ob_29, ob_30, ob_31, ob_32, ob_33, ob_34, ob_35, ob_36, ob_37, ob_38, ob_39, ob_40, ob_41, ob_42, ob_43, ob_44, ob_45, ob_46, ob_47, ob_48, ob_49, ob_50, ob_51, ob_52, ob_53, ob_54, ob_55, ob_56, ob_57, ob_58, ob_59, ob_60, ob_61, ob_62, ob_63, ob_64, ob_65, jf7, aGi, aGb, aGz, aGj, leT, leF, ltT, ltF, eqT, eqF, hk, c0, b1, isK, beq_tt, beq_tf, beq_ft, beq_ff, Bool.true_and, Bool.false_and, Bool.and_true, Bool.and_false, Bool.true_or, Bool.false_or, Bool.or_true, Bool.or_false, Bool.true_eq_false, Bool.false_eq_true, Bool.not_true, Bool.not_false, bZ_t, bZ_f, zI_b0, zI_b1, zI_bb, okZ_0, okZ_1, f17]
      | ok a =>
        rw [hb] at bl
        obtain ⟨T1, b1, b2, b3, b4⟩ := bl
        obtain ⟨o1, o2⟩ := bkP_ok W hb
        rw [eb_ok]
        have sg := rd_sign (d := d + 6) (m := m) (h := h) (c := 59) b4 (by omega) (by omega)
        cases hs : signP g z l 59 a.2 with
        | error e =>
          rw [hs] at sg
          obtain ⟨T2, s1, s2, s3⟩ := sg
          refine ⟨T2, (BF.lf b2).tr (BF.pf s2), ?_, s3⟩
          have f17 := s3.2
          rw [E7007_39]
          simp (disch := omega) only [jc_ref, rI_int, rR_ref, rR_null, rJ_long, ckR_ref, ckR_null, ckr_ref, ckr_null, ckW_int, ckW_ref, ckW_null, cI_ok, cR_ok, cR_null, cV_ok, cJ_ok, qH_eq, qD_in, aG_ref, aS_ref, aL_ref, pF_ref, cK_ref, cK_null, zI_lit, zJ_lit, zI_add, zI_sub, zI_mul, zI_neg, zI_eq, zI_lt, zI_le, Int.reduceLT, Int.reduceLE, Int.reduceAdd, Int.reduceSub, Int.reduceMul, Int.reduceNeg, Int.reduceEq, Int.reduceNe, reduceIte, tw_0, tw_1, tw_2, tw_3, tw_4, tw_5, tw_6, tw_7, tw_8, tw_9, tw_10, tw_11, tw_12, tw_13, tw_14, tw_15, tw_16, tw_17, tw_18, tw_19, tw_20, tw_21, tw_22, tw_23, tw_24, tw_25, tw_26, tw_27, tw_28, tw_29, tw_30, tw_31, ob_0, ob_1, ob_2, ob_3, ob_4, ob_5, ob_6, ob_7, ob_8, ob_9, ob_10, ob_11, ob_12, ob_13, ob_14, ob_15, ob_16, ob_17, ob_18, ob_19, ob_20, ob_21, ob_22, ob_23, ob_24, ob_25, ob_26, ob_27, ob_28, ob_29, ob_30, ob_31, ob_32, ob_33, ob_34, ob_35, ob_36, ob_37, ob_38, ob_39, ob_40, ob_41, ob_42, ob_43, ob_44, ob_45, ob_46, ob_47, ob_48, ob_49, ob_50, ob_51, ob_52, ob_53, ob_54, ob_55, ob_56, ob_57, ob_58, ob_59, ob_60, ob_61, ob_62, ob_63, ob_64, ob_65, jf7, aGi, aGb, aGz, aGj, leT, leF, ltT, ltF, eqT, eqF, hk, c0, b1, isK, beq_tt, beq_tf, beq_ft, beq_ff, Bool.true_and, Bool.false_and, Bool.and_true, Bool.and_false, Bool.true_or, Bool.false_or, Bool.or_true, Bool.or_false, Bool.true_eq_false, Bool.false_eq_true, Bool.not_true, Bool.not_false, bZ_t, bZ_f, zI_b0, zI_b1, zI_bb, okZ_0, okZ_1, s1, f17]
        | ok q' =>
          rw [hs] at sg
          obtain ⟨T2, s1, s2, s3, s4⟩ := sg
          rw [eb_ok]
          have e52 : T2 0 52 = n := by rw [s2.2 52 (by omega), b2.2.1 52 (by omega), hn]
          have E2 : T2 2 = T 2 := by rw [s2.1 2 (by decide), b2.1 2 (by decide) (by decide)]
          have E5 : T2 5 = a.1 := by rw [s2.1 5 (by decide), b3]
          have E6 : T2 6 = T 6 := by rw [s2.1 6 (by decide), b2.1 6 (by decide) (by decide)]
          have x2 : ts T2 0 52 (n + 1) 2 = T 2 := by rw [ts_ne (by decide), E2]
          have x5 : ts T2 0 52 (n + 1) 5 = a.1 := by rw [ts_ne (by decide), E5]
          have x6 : ts T2 0 52 (n + 1) 6 = T 6 := by rw [ts_ne (by decide), E6]
          have K1 : LkW (T 2) a.1 (n + 1) := fun i i0 i1 => by
            by_cases hi : i = n
            · subst hi; exact o2
            · exact LkW.cg (S' := T 2) (L' := a.1) W K (fun t t0 t1 => by rw [← b3]; exact b2.2.2 t (Or.inl t1)) (fun _ _ _ => rfl) i i0 (by omega)
          obtain ⟨T', u1, u2⟩ := ih (ts T2 0 52 (n + 1)) (n + 1) q' (s4.st (by omega)) (by rw [x2]; exact W) (by rw [ts_eq, fset_eq]) (by omega) (by omega) (by omega) (by rw [x2, x5]; exact K1)
          rw [x2, x5, x6] at u2
          have st : G (d + 9) 7007 39 [.ref m, .int i1, jno, jno] [] (tw m T h) = G (d + 9) 7007 39 [.ref m, .int i1, jno, jno] [] (tw m (ts T2 0 52 (n + 1)) h) := by
            conv => lhs; rw [E7007_39]
            simp (disch := omega) only [jc_ref, rI_int, rR_ref, rR_null, rJ_long, ckR_ref, ckR_null, ckr_ref, ckr_null, ckW_int, ckW_ref, ckW_null, cI_ok, cR_ok, cR_null, cV_ok, cJ_ok, qH_eq, qD_in, aG_ref, aS_ref, aL_ref, pF_ref, cK_ref, cK_null, zI_lit, zJ_lit, zI_add, zI_sub, zI_mul, zI_neg, zI_eq, zI_lt, zI_le, Int.reduceLT, Int.reduceLE, Int.reduceAdd, Int.reduceSub, Int.reduceMul, Int.reduceNeg, Int.reduceEq, Int.reduceNe, reduceIte, tw_0, tw_1, tw_2, tw_3, tw_4, tw_5, tw_6, tw_7, tw_8, tw_9, tw_10, tw_11, tw_12, tw_13, tw_14, tw_15, tw_16, tw_17, tw_18, tw_19, tw_20, tw_21, tw_22, tw_23, tw_24, tw_25, tw_26, tw_27, tw_28, tw_29, tw_30, tw_31, ob_0, ob_1, ob_2, ob_3, ob_4, ob_5, ob_6, ob_7, ob_8, ob_9, ob_10, ob_11, ob_12, ob_13, ob_14, ob_15, ob_16, ob_17, ob_18, ob_19, ob_20, ob_21, ob_22, ob_23, ob_24, ob_25, ob_26, ob_27, ob_28, ob_29, ob_30, ob_31, ob_32, ob_33, ob_34, ob_35, ob_36, ob_37, ob_38, ob_39, ob_40, ob_41, ob_42, ob_43, ob_44, ob_45, ob_46, ob_47, ob_48, ob_49, ob_50, ob_51, ob_52, ob_53, ob_54, ob_55, ob_56, ob_57, ob_58, ob_59, ob_60, ob_61, ob_62, ob_63, ob_64, ob_65, jf7, aGi, aGb, aGz, aGj, leT, leF, ltT, ltF, eqT, eqF, tws_0, tws_1, tws_2, tws_3, tws_4, tws_5, tws_6, tws_7, tws_8, tws_9, tws_10, tws_11, tws_12, tws_13, tws_14, tws_15, tws_16, tws_17, tws_18, tws_19, tws_20, tws_21, tws_22, tws_23, tws_24, tws_25, tws_26, tws_27, tws_28, tws_29, tws_30, tws_31, obs_0, obs_2, obs_3, obs_4, obs_5, obs_12, obs_13, obs_14, obs_15, obs_16, obs_17, obs_18, obs_19, obs_20, obs_21, obs_22, obs_26, obs_31, obs_32, obs_33, obs_34, obs_35, obs_41, obs_42, obs_44, obs_48, obs_50, obs_51, obs_52, obs_55, obs_57, obs_58, obs_59, obs_60, obs_61, pF7i, pF7z, pF7j, aSi, aSj, aSb1, aSb24, aSb28, aSb31, ts, tg_eq, tg_ne, tg_tg, fset_eq, fset_ne, hk, c0, b1, isK, beq_tt, beq_tf, beq_ft, beq_ff, Bool.true_and, Bool.false_and, Bool.and_true, Bool.and_false, Bool.true_or, Bool.false_or, Bool.or_true, Bool.or_false, Bool.true_eq_false, Bool.false_eq_true, Bool.not_true, Bool.not_false, bZ_t, bZ_f, zI_b0, zI_b1, zI_bb, okZ_0, okZ_1, s1, e52]
          rw [st]
          exact ⟨T', ((BF.lf b2).tr (BF.pf s2)).tr (BF.s.tr u1), u2⟩
theorem bo_85 {i1 : Int32} : ∀ (j : Nat) (i : Int) (T : Nat → Int → Int), 0 ≤ i → i + j = 1091 →
    G d 7007 85 [.ref m, .int i1, .int (zI i), jno] [] (tw m T h) = G d 7007 116 [.ref m, .int i1, .int (zI 0), jno] [] (tw m (tg T 26 (bl i 1091 (fun x => T 2 (148 + x)) (T 26))) h) := by
  intro j
  induction j with
  | zero =>
    intro i T i0 hi
    rw [bl_end (by omega), tg_self]
    conv => lhs; rw [E7007_85]
    simp (disch := omega) only [jc_ref, rI_int, rR_ref, rR_null, rJ_long, ckR_ref, ckR_null, ckr_ref, ckr_null, ckW_int, ckW_ref, ckW_null, cI_ok, cR_ok, cR_null, cV_ok, cJ_ok, qH_eq, qD_in, aG_ref, aS_ref, aL_ref, pF_ref, cK_ref, cK_null, zI_lit, zJ_lit, zI_add, zI_sub, zI_mul, zI_neg, zI_eq, zI_lt, zI_le, Int.reduceLT, Int.reduceLE, Int.reduceAdd, Int.reduceSub, Int.reduceMul, Int.reduceNeg, Int.reduceEq, Int.reduceNe, reduceIte, tw_0, tw_1, tw_2, tw_3, tw_4, tw_5, tw_6, tw_7, tw_8, tw_9, tw_10, tw_11, tw_12, tw_13, tw_14, tw_15, tw_16, tw_17, tw_18, tw_19, tw_20, tw_21, tw_22, tw_23, tw_24, tw_25, tw_26, tw_27, tw_28, tw_29, tw_30, tw_31, ob_0, ob_1, ob_2, ob_3, ob_4, ob_5, ob_6, ob_7, ob_8, ob_9, ob_10, ob_11, ob_12, ob_13, ob_14, ob_15, ob_16, ob_17, ob_18, ob_19, ob_20, ob_21, ob_22, ob_23, ob_24, ob_25, ob_26, ob_27, ob_28, ob_29, ob_30, ob_31, ob_32, ob_33, ob_34, ob_35, ob_36, ob_37, ob_38, ob_39, ob_40, ob_41, ob_42, ob_43, ob_44, ob_45, ob_46, ob_47, ob_48, ob_49, ob_50, ob_51, ob_52, ob_53, ob_54, ob_55, ob_56, ob_57, ob_58, ob_59, ob_60, ob_61, ob_62, ob_63, ob_64, ob_65, jf7, aGi, aGb, aGz, aGj, leT, leF, ltT, ltF, eqT, eqF]
  | succ j ih =>
    intro i T i0 hi
    have ih' := ih (i + 1) (tg T 26 (fset (T 26) i (T 2 (148 + i)))) (by omega) (by omega)
    rw [tg_tg, tg_eq, tg_ne (show (2 : Nat) ≠ 26 by decide), bl_step (f := fun x => T 2 (148 + x)) (by omega)] at ih'
    rw [← ih']
    conv => lhs; rw [E7007_85]
    simp (disch := omega) only [jc_ref, rI_int, rR_ref, rR_null, rJ_long, ckR_ref, ckR_null, ckr_ref, ckr_null, ckW_int, ckW_ref, ckW_null, cI_ok, cR_ok, cR_null, cV_ok, cJ_ok, qH_eq, qD_in, aG_ref, aS_ref, aL_ref, pF_ref, cK_ref, cK_null, zI_lit, zJ_lit, zI_add, zI_sub, zI_mul, zI_neg, zI_eq, zI_lt, zI_le, Int.reduceLT, Int.reduceLE, Int.reduceAdd, Int.reduceSub, Int.reduceMul, Int.reduceNeg, Int.reduceEq, Int.reduceNe, reduceIte, tw_0, tw_1, tw_2, tw_3, tw_4, tw_5, tw_6, tw_7, tw_8, tw_9, tw_10, tw_11, tw_12, tw_13, tw_14, tw_15, tw_16, tw_17, tw_18, tw_19, tw_20, tw_21, tw_22, tw_23, tw_24, tw_25, tw_26, tw_27, tw_28, tw_29, tw_30, tw_31, ob_0, ob_1, ob_2, ob_3, ob_4, ob_5, ob_6, ob_7, ob_8, ob_9, ob_10, ob_11, ob_12, ob_13, ob_14, ob_15, ob_16, ob_17, ob_18, ob_19, ob_20, ob_21, ob_22, ob_23, ob_24, ob_25, ob_26, ob_27, ob_28, ob_29, ob_30, ob_31, ob_32, ob_33, ob_34, ob_35, ob_36, ob_37, ob_38, ob_39, ob_40, ob_41, ob_42, ob_43, ob_44, ob_45, ob_46, ob_47, ob_48, ob_49, ob_50, ob_51, ob_52, ob_53, ob_54, ob_55, ob_56, ob_57, ob_58, ob_59, ob_60, ob_61, ob_62, ob_63, ob_64, ob_65, jf7, aGi, aGb, aGz, aGj, leT, leF, ltT, ltF, eqT, eqF, tws_0, tws_1, tws_2, tws_3, tws_4, tws_5, tws_6, tws_7, tws_8, tws_9, tws_10, tws_11, tws_12, tws_13, tws_14, tws_15, tws_16, tws_17, tws_18, tws_19, tws_20, tws_21, tws_22, tws_23, tws_24, tws_25, tws_26, tws_27, tws_28, tws_29, tws_30, tws_31, obs_0, obs_2, obs_3, obs_4, obs_5, obs_12, obs_13, obs_14, obs_15, obs_16, obs_17, obs_18, obs_19, obs_20, obs_21, obs_22, obs_26, obs_31, obs_32, obs_33, obs_34, obs_35, obs_41, obs_42, obs_44, obs_48, obs_50, obs_51, obs_52, obs_55, obs_57, obs_58, obs_59, obs_60, obs_61, pF7i, pF7z, pF7j, aSi, aSj, aSb1, aSb24, aSb28, aSb31, ts, tg_eq, tg_ne, tg_tg, fset_eq, fset_ne]
theorem bo_116 {i1 : Int32} : ∀ (j : Nat) (i : Int) (T : Nat → Int → Int), 0 ≤ i → i + j = 4 →
    G d 7007 116 [.ref m, .int i1, .int (zI i), jno] [] (tw m T h) = G d 7007 138 [.ref m, .int i1, .int (zI (-1)), .int (zI 0)] [] (tw m (tg T 25 (bl i 4 (fun _ => 0) (T 25))) h) := by
  intro j
  induction j with
  | zero =>
    intro i T i0 hi
    rw [bl_end (by omega), tg_self]
    conv => lhs; rw [E7007_116]
    simp (disch := omega) only [jc_ref, rI_int, rR_ref, rR_null, rJ_long, ckR_ref, ckR_null, ckr_ref, ckr_null, ckW_int, ckW_ref, ckW_null, cI_ok, cR_ok, cR_null, cV_ok, cJ_ok, qH_eq, qD_in, aG_ref, aS_ref, aL_ref, pF_ref, cK_ref, cK_null, zI_lit, zJ_lit, zI_add, zI_sub, zI_mul, zI_neg, zI_eq, zI_lt, zI_le, Int.reduceLT, Int.reduceLE, Int.reduceAdd, Int.reduceSub, Int.reduceMul, Int.reduceNeg, Int.reduceEq, Int.reduceNe, reduceIte, tw_0, tw_1, tw_2, tw_3, tw_4, tw_5, tw_6, tw_7, tw_8, tw_9, tw_10, tw_11, tw_12, tw_13, tw_14, tw_15, tw_16, tw_17, tw_18, tw_19, tw_20, tw_21, tw_22, tw_23, tw_24, tw_25, tw_26, tw_27, tw_28, tw_29, tw_30, tw_31, ob_0, ob_1, ob_2, ob_3, ob_4, ob_5, ob_6, ob_7, ob_8, ob_9, ob_10, ob_11, ob_12, ob_13, ob_14, ob_15, ob_16, ob_17, ob_18, ob_19, ob_20, ob_21, ob_22, ob_23, ob_24, ob_25, ob_26, ob_27, ob_28, ob_29, ob_30, ob_31, ob_32, ob_33, ob_34, ob_35, ob_36, ob_37, ob_38, ob_39, ob_40, ob_41, ob_42, ob_43, ob_44, ob_45, ob_46, ob_47, ob_48, ob_49, ob_50, ob_51, ob_52, ob_53, ob_54, ob_55, ob_56, ob_57, ob_58, ob_59, ob_60, ob_61, ob_62, ob_63, ob_64, ob_65, jf7, aGi, aGb, aGz, aGj, leT, leF, ltT, ltF, eqT, eqF]
  | succ j ih =>
    intro i T i0 hi
    have ih' := ih (i + 1) (tg T 25 (fset (T 25) i 0)) (by omega) (by omega)
    rw [tg_tg, tg_eq, bl_step (f := fun _ => 0) (by omega)] at ih'
    rw [← ih']
    conv => lhs; rw [E7007_116]
    simp (disch := omega) only [jc_ref, rI_int, rR_ref, rR_null, rJ_long, ckR_ref, ckR_null, ckr_ref, ckr_null, ckW_int, ckW_ref, ckW_null, cI_ok, cR_ok, cR_null, cV_ok, cJ_ok, qH_eq, qD_in, aG_ref, aS_ref, aL_ref, pF_ref, cK_ref, cK_null, zI_lit, zJ_lit, zI_add, zI_sub, zI_mul, zI_neg, zI_eq, zI_lt, zI_le, Int.reduceLT, Int.reduceLE, Int.reduceAdd, Int.reduceSub, Int.reduceMul, Int.reduceNeg, Int.reduceEq, Int.reduceNe, reduceIte, tw_0, tw_1, tw_2, tw_3, tw_4, tw_5, tw_6, tw_7, tw_8, tw_9, tw_10, tw_11, tw_12, tw_13, tw_14, tw_15, tw_16, tw_17, tw_18, tw_19, tw_20, tw_21, tw_22, tw_23, tw_24, tw_25, tw_26, tw_27, tw_28, tw_29, tw_30, tw_31, ob_0, ob_1, ob_2, ob_3, ob_4, ob_5, ob_6, ob_7, ob_8, ob_9, ob_10, ob_11, ob_12, ob_13, ob_14, ob_15, ob_16, ob_17, ob_18, ob_19, ob_20, ob_21, ob_22, ob_23, ob_24, ob_25, ob_26, ob_27, ob_28, ob_29, ob_30, ob_31, ob_32, ob_33, ob_34, ob_35, ob_36, ob_37, ob_38, ob_39, ob_40, ob_41, ob_42, ob_43, ob_44, ob_45, ob_46, ob_47, ob_48, ob_49, ob_50, ob_51, ob_52, ob_53, ob_54, ob_55, ob_56, ob_57, ob_58, ob_59, ob_60, ob_61, ob_62, ob_63, ob_64, ob_65, jf7, aGi, aGb, aGz, aGj, leT, leF, ltT, ltF, eqT, eqF, tws_0, tws_1, tws_2, tws_3, tws_4, tws_5, tws_6, tws_7, tws_8, tws_9, tws_10, tws_11, tws_12, tws_13, tws_14, tws_15, tws_16, tws_17, tws_18, tws_19, tws_20, tws_21, tws_22, tws_23, tws_24, tws_25, tws_26, tws_27, tws_28, tws_29, tws_30, tws_31, obs_0, obs_2, obs_3, obs_4, obs_5, obs_12, obs_13, obs_14, obs_15, obs_16, obs_17, obs_18, obs_19, obs_20, obs_21, obs_22, obs_26, obs_31, obs_32, obs_33, obs_34, obs_35, obs_41, obs_42, obs_44, obs_48, obs_50, obs_51, obs_52, obs_55, obs_57, obs_58, obs_59, obs_60, obs_61, pF7i, pF7z, pF7j, aSi, aSj, aSb1, aSb24, aSb28, aSb31, ts, tg_eq, tg_ne, tg_tg, fset_eq, fset_ne]
theorem bo_247 {i1 i2 : Int32} : ∀ (j : Nat) (i : Int) (T : Nat → Int → Int), 0 ≤ i → i + j = 1091 →
    G d 7007 247 [.ref m, .int i1, .int i2, .int (zI i)] [] (tw m T h) = some (.inl (some (.int i2)), tw m (tg T 2 (bl (148 + i) 1239 (fun x => T 26 (x + -148)) (T 2))) h) := by
  intro j
  induction j with
  | zero =>
    intro i T i0 hi
    rw [bl_end (by omega), tg_self]
    conv => lhs; rw [E7007_247]
    simp (disch := omega) only [jc_ref, rI_int, rR_ref, rR_null, rJ_long, ckR_ref, ckR_null, ckr_ref, ckr_null, ckW_int, ckW_ref, ckW_null, cI_ok, cR_ok, cR_null, cV_ok, cJ_ok, qH_eq, qD_in, aG_ref, aS_ref, aL_ref, pF_ref, cK_ref, cK_null, zI_lit, zJ_lit, zI_add, zI_sub, zI_mul, zI_neg, zI_eq, zI_lt, zI_le, Int.reduceLT, Int.reduceLE, Int.reduceAdd, Int.reduceSub, Int.reduceMul, Int.reduceNeg, Int.reduceEq, Int.reduceNe, reduceIte, tw_0, tw_1, tw_2, tw_3, tw_4, tw_5, tw_6, tw_7, tw_8, tw_9, tw_10, tw_11, tw_12, tw_13, tw_14, tw_15, tw_16, tw_17, tw_18, tw_19, tw_20, tw_21, tw_22, tw_23, tw_24, tw_25, tw_26, tw_27, tw_28, tw_29, tw_30, tw_31, ob_0, ob_1, ob_2, ob_3, ob_4, ob_5, ob_6, ob_7, ob_8, ob_9, ob_10, ob_11, ob_12, ob_13, ob_14, ob_15, ob_16, ob_17, ob_18, ob_19, ob_20, ob_21, ob_22, ob_23, ob_24, ob_25, ob_26, ob_27, ob_28, ob_29, ob_30, ob_31, ob_32, ob_33, ob_34, ob_35, ob_36, ob_37, ob_38, ob_39, ob_40, ob_41, ob_42, ob_43, ob_44, ob_45, ob_46, ob_47, ob_48, ob_49, ob_50, ob_51, ob_52, ob_53, ob_54, ob_55, ob_56, ob_57, ob_58, ob_59, ob_60, ob_61, ob_62, ob_63, ob_64, ob_65, jf7, aGi, aGb, aGz, aGj, leT, leF, ltT, ltF, eqT, eqF]
  | succ j ih =>
    intro i T i0 hi
    have ih' := ih (i + 1) (tg T 2 (fset (T 2) (148 + i) (T 26 i))) (by omega) (by omega)
    have bs := bl_step (f := fun x => T 26 (x + -148)) (g := T 2) (i := 148 + i) (hi := 1239) (by omega)
    simp only [show 148 + i + -148 = i by omega] at bs
    rw [tg_tg, tg_eq, tg_ne (show (26 : Nat) ≠ 2 by decide), show 148 + (i + 1) = 148 + i + 1 by omega, bs] at ih'
    rw [← ih']
    conv => lhs; rw [E7007_247]
    simp (disch := omega) only [jc_ref, rI_int, rR_ref, rR_null, rJ_long, ckR_ref, ckR_null, ckr_ref, ckr_null, ckW_int, ckW_ref, ckW_null, cI_ok, cR_ok, cR_null, cV_ok, cJ_ok, qH_eq, qD_in, aG_ref, aS_ref, aL_ref, pF_ref, cK_ref, cK_null, zI_lit, zJ_lit, zI_add, zI_sub, zI_mul, zI_neg, zI_eq, zI_lt, zI_le, Int.reduceLT, Int.reduceLE, Int.reduceAdd, Int.reduceSub, Int.reduceMul, Int.reduceNeg, Int.reduceEq, Int.reduceNe, reduceIte, tw_0, tw_1, tw_2, tw_3, tw_4, tw_5, tw_6, tw_7, tw_8, tw_9, tw_10, tw_11, tw_12, tw_13, tw_14, tw_15, tw_16, tw_17, tw_18, tw_19, tw_20, tw_21, tw_22, tw_23, tw_24, tw_25, tw_26, tw_27, tw_28, tw_29, tw_30, tw_31, ob_0, ob_1, ob_2, ob_3, ob_4, ob_5, ob_6, ob_7, ob_8, ob_9, ob_10, ob_11, ob_12, ob_13, ob_14, ob_15, ob_16, ob_17, ob_18, ob_19, ob_20, ob_21, ob_22, ob_23, ob_24, ob_25, ob_26, ob_27, ob_28, ob_29, ob_30, ob_31, ob_32, ob_33, ob_34, ob_35, ob_36, ob_37, ob_38, ob_39, ob_40, ob_41, ob_42, ob_43, ob_44, ob_45, ob_46, ob_47, ob_48, ob_49, ob_50, ob_51, ob_52, ob_53, ob_54, ob_55, ob_56, ob_57, ob_58, ob_59, ob_60, ob_61, ob_62, ob_63, ob_64, ob_65, jf7, aGi, aGb, aGz, aGj, leT, leF, ltT, ltF, eqT, eqF, tws_0, tws_1, tws_2, tws_3, tws_4, tws_5, tws_6, tws_7, tws_8, tws_9, tws_10, tws_11, tws_12, tws_13, tws_14, tws_15, tws_16, tws_17, tws_18, tws_19, tws_20, tws_21, tws_22, tws_23, tws_24, tws_25, tws_26, tws_27, tws_28, tws_29, tws_30, tws_31, obs_0, obs_2, obs_3, obs_4, obs_5, obs_12, obs_13, obs_14, obs_15, obs_16, obs_17, obs_18, obs_19, obs_20, obs_21, obs_22, obs_26, obs_31, obs_32, obs_33, obs_34, obs_35, obs_41, obs_42, obs_44, obs_48, obs_50, obs_51, obs_52, obs_55, obs_57, obs_58, obs_59, obs_60, obs_61, pF7i, pF7z, pF7j, aSi, aSj, aSb1, aSb24, aSb28, aSb31, ts, tg_eq, tg_ne, tg_tg, fset_eq, fset_ne]
theorem so_48_26 : ∀ (j : Nat) (i : Int) (T : Nat → Int → Int), 0 ≤ i → i + j = 1091 → 0 ≤ T 0 44 → T 0 44 < 8 →
    G d 7106 48 [.ref m, .ref (m + 26), .int (zI i)] [] (tw m T h) = some (.inl none, tw m (ts (tg T 20 (bl (1091 * T 0 44 + i) (1091 * T 0 44 + 1091) (fun x => T 26 (x - 1091 * T 0 44)) (T 20))) 0 44 (T 0 44 + 1)) h) := by
  intro j
  induction j with
  | zero =>
    intro i T i0 hi n0 n1
    rw [bl_end (by omega), tg_self]
    conv => lhs; rw [E7106_48]
    simp (disch := omega) only [jc_ref, rI_int, rR_ref, rR_null, rJ_long, ckR_ref, ckR_null, ckr_ref, ckr_null, ckW_int, ckW_ref, ckW_null, cI_ok, cR_ok, cR_null, cV_ok, cJ_ok, qH_eq, qD_in, aG_ref, aS_ref, aL_ref, pF_ref, cK_ref, cK_null, zI_lit, zJ_lit, zI_add, zI_sub, zI_mul, zI_neg, zI_eq, zI_lt, zI_le, Int.reduceLT, Int.reduceLE, Int.reduceAdd, Int.reduceSub, Int.reduceMul, Int.reduceNeg, Int.reduceEq, Int.reduceNe, reduceIte, tw_0, tw_1, tw_2, tw_3, tw_4, tw_5, tw_6, tw_7, tw_8, tw_9, tw_10, tw_11, tw_12, tw_13, tw_14, tw_15, tw_16, tw_17, tw_18, tw_19, tw_20, tw_21, tw_22, tw_23, tw_24, tw_25, tw_26, tw_27, tw_28, tw_29, tw_30, tw_31, ob_0, ob_1, ob_2, ob_3, ob_4, ob_5, ob_6, ob_7, ob_8, ob_9, ob_10, ob_11, ob_12, ob_13, ob_14, ob_15, ob_16, ob_17, ob_18, ob_19, ob_20, ob_21, ob_22, ob_23, ob_24, ob_25, ob_26, ob_27, ob_28, ob_29, ob_30, ob_31, ob_32, ob_33, ob_34, ob_35, ob_36, ob_37, ob_38, ob_39, ob_40, ob_41, ob_42, ob_43, ob_44, ob_45, ob_46, ob_47, ob_48, ob_49, ob_50, ob_51, ob_52, ob_53, ob_54, ob_55, ob_56, ob_57, ob_58, ob_59, ob_60, ob_61, ob_62, ob_63, ob_64, ob_65, jf7, aGi, aGb, aGz, aGj, leT, leF, ltT, ltF, eqT, eqF, tws_0, tws_1, tws_2, tws_3, tws_4, tws_5, tws_6, tws_7, tws_8, tws_9, tws_10, tws_11, tws_12, tws_13, tws_14, tws_15, tws_16, tws_17, tws_18, tws_19, tws_20, tws_21, tws_22, tws_23, tws_24, tws_25, tws_26, tws_27, tws_28, tws_29, tws_30, tws_31, obs_0, obs_2, obs_3, obs_4, obs_5, obs_12, obs_13, obs_14, obs_15, obs_16, obs_17, obs_18, obs_19, obs_20, obs_21, obs_22, obs_26, obs_31, obs_32, obs_33, obs_34, obs_35, obs_41, obs_42, obs_44, obs_48, obs_50, obs_51, obs_52, obs_55, obs_57, obs_58, obs_59, obs_60, obs_61, pF7i, pF7z, pF7j, aSi, aSj, aSb1, aSb24, aSb28, aSb31, ts, tg_eq, tg_ne, tg_tg, fset_eq, fset_ne]
  | succ j ih =>
    intro i T i0 hi n0 n1
    have ih' := ih (i + 1) (tg T 20 (fset (T 20) (1091 * T 0 44 + i) (T 26 i))) (by omega) (by omega) (by rw [tg_ne (by decide)]; exact n0) (by rw [tg_ne (by decide)]; exact n1)
    have bs := bl_step (f := fun x => T 26 (x - 1091 * T 0 44)) (g := T 20) (i := 1091 * T 0 44 + i) (hi := 1091 * T 0 44 + 1091) (by omega)
    simp only [show 1091 * T 0 44 + i - 1091 * T 0 44 = i by omega] at bs
    rw [tg_tg, tg_eq, tg_ne (show (0 : Nat) ≠ 20 by decide), tg_ne (show (26 : Nat) ≠ 20 by decide), show 1091 * T 0 44 + (i + 1) = 1091 * T 0 44 + i + 1 by omega, bs] at ih'
    rw [← ih']
    conv => lhs; rw [E7106_48]
    simp (disch := omega) only [jc_ref, rI_int, rR_ref, rR_null, rJ_long, ckR_ref, ckR_null, ckr_ref, ckr_null, ckW_int, ckW_ref, ckW_null, cI_ok, cR_ok, cR_null, cV_ok, cJ_ok, qH_eq, qD_in, aG_ref, aS_ref, aL_ref, pF_ref, cK_ref, cK_null, zI_lit, zJ_lit, zI_add, zI_sub, zI_mul, zI_neg, zI_eq, zI_lt, zI_le, Int.reduceLT, Int.reduceLE, Int.reduceAdd, Int.reduceSub, Int.reduceMul, Int.reduceNeg, Int.reduceEq, Int.reduceNe, reduceIte, tw_0, tw_1, tw_2, tw_3, tw_4, tw_5, tw_6, tw_7, tw_8, tw_9, tw_10, tw_11, tw_12, tw_13, tw_14, tw_15, tw_16, tw_17, tw_18, tw_19, tw_20, tw_21, tw_22, tw_23, tw_24, tw_25, tw_26, tw_27, tw_28, tw_29, tw_30, tw_31, ob_0, ob_1, ob_2, ob_3, ob_4, ob_5, ob_6, ob_7, ob_8, ob_9, ob_10, ob_11, ob_12, ob_13, ob_14, ob_15, ob_16, ob_17, ob_18, ob_19, ob_20, ob_21, ob_22, ob_23, ob_24, ob_25, ob_26, ob_27, ob_28, ob_29, ob_30, ob_31, ob_32, ob_33, ob_34, ob_35, ob_36, ob_37, ob_38, ob_39, ob_40, ob_41, ob_42, ob_43, ob_44, ob_45, ob_46, ob_47, ob_48, ob_49, ob_50, ob_51, ob_52, ob_53, ob_54, ob_55, ob_56, ob_57, ob_58, ob_59, ob_60, ob_61, ob_62, ob_63, ob_64, ob_65, jf7, aGi, aGb, aGz, aGj, leT, leF, ltT, ltF, eqT, eqF, tws_0, tws_1, tws_2, tws_3, tws_4, tws_5, tws_6, tws_7, tws_8, tws_9, tws_10, tws_11, tws_12, tws_13, tws_14, tws_15, tws_16, tws_17, tws_18, tws_19, tws_20, tws_21, tws_22, tws_23, tws_24, tws_25, tws_26, tws_27, tws_28, tws_29, tws_30, tws_31, obs_0, obs_2, obs_3, obs_4, obs_5, obs_12, obs_13, obs_14, obs_15, obs_16, obs_17, obs_18, obs_19, obs_20, obs_21, obs_22, obs_26, obs_31, obs_32, obs_33, obs_34, obs_35, obs_41, obs_42, obs_44, obs_48, obs_50, obs_51, obs_52, obs_55, obs_57, obs_58, obs_59, obs_60, obs_61, pF7i, pF7z, pF7j, aSi, aSj, aSb1, aSb24, aSb28, aSb31, ts, tg_eq, tg_ne, tg_tg, fset_eq, fset_ne]
theorem tm_stores26 {T : Nat → Int → Int} (n0 : 0 ≤ T 0 44) (n1 : T 0 44 ≤ 8) : M (d + 1) 7106 [.ref m, .ref (m + 26)] (tw m T h) = some (.inl none, tw m (stQ T 26) h) := by
  rw [X7106 _ rfl (tw_recv rfl), E7106_0]
  by_cases e : T 0 44 = 8
  · have es : shQ T = ts (tg T 20 (bl 0 7637 (fun x => T 20 (x + 1091)) (T 20))) 0 44 7 := by unfold shQ; rw [if_pos e]
    have ek : shQ T 26 = T 26 := by rw [es, ts_ne (by decide), tg_ne (by decide)]
    have e44 : shQ T 0 44 = 7 := by rw [es, ts_eq, fset_eq]
    have l1 := so_11 (d := d) (m := m) (h := h) (v := .ref (m + 26)) 7637 0 T (by omega) (by omega)
    have l2 := so_48_26 (d := d) (m := m) (h := h) 1091 0 (shQ T) (by omega) (by omega) (by omega) (by omega)
    rw [ek, Int.add_zero] at l2
    rw [← es] at l1
    simp (disch := omega) only [jc_ref, rI_int, rR_ref, rR_null, rJ_long, ckR_ref, ckR_null, ckr_ref, ckr_null, ckW_int, ckW_ref, ckW_null, cI_ok, cR_ok, cR_null, cV_ok, cJ_ok, qH_eq, qD_in, aG_ref, aS_ref, aL_ref, pF_ref, cK_ref, cK_null, zI_lit, zJ_lit, zI_add, zI_sub, zI_mul, zI_neg, zI_eq, zI_lt, zI_le, Int.reduceLT, Int.reduceLE, Int.reduceAdd, Int.reduceSub, Int.reduceMul, Int.reduceNeg, Int.reduceEq, Int.reduceNe, reduceIte, tw_0, tw_1, tw_2, tw_3, tw_4, tw_5, tw_6, tw_7, tw_8, tw_9, tw_10, tw_11, tw_12, tw_13, tw_14, tw_15, tw_16, tw_17, tw_18, tw_19, tw_20, tw_21, tw_22, tw_23, tw_24, tw_25, tw_26, tw_27, tw_28, tw_29, tw_30, tw_31, ob_0, ob_1, ob_2, ob_3, ob_4, ob_5, ob_6, ob_7, ob_8, ob_9, ob_10, ob_11, ob_12, ob_13, ob_14, ob_15, ob_16, ob_17, ob_18, ob_19, ob_20, ob_21, ob_22, ob_23, ob_24, ob_25, ob_26, ob_27, ob_28, ob_29, ob_30, ob_31, ob_32, ob_33, ob_34, ob_35, ob_36, ob_37, ob_38, ob_39, ob_40, ob_41, ob_42, ob_43, ob_44, ob_45, ob_46, ob_47, ob_48, ob_49, ob_50, ob_51, ob_52, ob_53, ob_54, ob_55, ob_56, ob_57, ob_58, ob_59, ob_60, ob_61, ob_62, ob_63, ob_64, ob_65, jf7, aGi, aGb, aGz, aGj, leT, leF, ltT, ltF, eqT, eqF, e, l1]
    exact l2
  · have es : shQ T = T := by unfold shQ; rw [if_neg e]
    have l2 := so_48_26 (d := d) (m := m) (h := h) 1091 0 T (by omega) (by omega) (by omega) (by omega)
    rw [Int.add_zero] at l2
    unfold stQ
    rw [es]
    simp (disch := omega) only [jc_ref, rI_int, rR_ref, rR_null, rJ_long, ckR_ref, ckR_null, ckr_ref, ckr_null, ckW_int, ckW_ref, ckW_null, cI_ok, cR_ok, cR_null, cV_ok, cJ_ok, qH_eq, qD_in, aG_ref, aS_ref, aL_ref, pF_ref, cK_ref, cK_null, zI_lit, zJ_lit, zI_add, zI_sub, zI_mul, zI_neg, zI_eq, zI_lt, zI_le, Int.reduceLT, Int.reduceLE, Int.reduceAdd, Int.reduceSub, Int.reduceMul, Int.reduceNeg, Int.reduceEq, Int.reduceNe, reduceIte, tw_0, tw_1, tw_2, tw_3, tw_4, tw_5, tw_6, tw_7, tw_8, tw_9, tw_10, tw_11, tw_12, tw_13, tw_14, tw_15, tw_16, tw_17, tw_18, tw_19, tw_20, tw_21, tw_22, tw_23, tw_24, tw_25, tw_26, tw_27, tw_28, tw_29, tw_30, tw_31, ob_0, ob_1, ob_2, ob_3, ob_4, ob_5, ob_6, ob_7, ob_8, ob_9, ob_10, ob_11, ob_12, ob_13, ob_14, ob_15, ob_16, ob_17, ob_18, ob_19, ob_20, ob_21, ob_22, ob_23, ob_24, ob_25, ob_26, ob_27, ob_28, ob_29, ob_30, ob_31, ob_32, ob_33, ob_34, ob_35, ob_36, ob_37, ob_38, ob_39, ob_40, ob_41, ob_42, ob_43, ob_44, ob_45, ob_46, ob_47, ob_48, ob_49, ob_50, ob_51, ob_52, ob_53, ob_54, ob_55, ob_56, ob_57, ob_58, ob_59, ob_60, ob_61, ob_62, ob_63, ob_64, ob_65, jf7, aGi, aGb, aGz, aGj, leT, leF, ltT, ltF, eqT, eqF, e]
    exact l2
end
