/-! the twin's sentences: what comes behind an operand; the whole by its grammar -/
section
variable {g : Int → Int} {z l : Int} {d m : Nat} {T : Nat → Int → Int} {h : AH} {q ones : Int} {cds : List Cd} {st b js : List Int} {wh : Bool} {S nm : Int → Int} {k : Nat}
theorem jn21 {v : Int} : jnB 21 v ↔ v = 21 := by unfold jnB; omega
theorem jn22 {v : Int} : jnB 22 v ↔ (v = 21 ∨ v = 22) := by unfold jnB; omega
/-- and, or: what binds as much is done, it waits -/
theorem tm_behA {till : Int} (s : SnS g z l T cds ones (List.replicate k 20 ++ (js ++ b)) true q) (ht : (till = 21 ∧ isW g z l q wAND = true) ∨ (till = 22 ∧ isW g z l q wAND = false ∧ isW g z l q wOR = true)) (hj : ∀ v ∈ js, jnB till v) (hb : ∀ v s, b = v :: s → ¬ jnB till v ∧ v ≠ 20) :
    ∃ T', M (d + 3) 7005 [.ref m] (tw m T h) = some (.inl (some (.int (zI (bZ true)))), tw m T' h) ∧ SnF T T' ∧ SnS g z l T' (cds ++ List.replicate k (cdO 20) ++ js.map cdO) ones (till :: b) false (nxt g z l q) := by
  have h20 : ∀ v s, js ++ b = v :: s → v ≠ 20 := fun v ss e => by
    cases js with
    | nil => exact (hb v ss e).2
    | cons u t =>
      have := hj u List.mem_cons_self
      rw [List.cons_append, List.cons.injEq] at e
      rw [← e.1]; unfold jnB at this; omega
  have ht' : till = 21 ∨ till = 22 := by rcases ht with x | x <;> omega
  obtain ⟨T1, a1, a2, a3⟩ := tm_nots (d := d) (m := m) (h := h) s h20
  obtain ⟨T2, b1, b2, b3⟩ := tm_joins (d := d) (m := m) (h := h) ht' a3 hj fun v s e => (hb v s e).1
  have w1 := rd_isW (d := d + 1) (m := m) (h := h) a3.1 (w := 6385252) (by omega) (by omega)
  have w2 := rd_isW (d := d + 1) (m := m) (h := h) a3.1 (w := 28530) (by omega) (by omega)
  have w3 := rd_isW (d := d + 1) (m := m) (h := h) b3.1 (w := 6385252) (by omega) (by omega)
  obtain ⟨R, c, o, ⟨s1, s2, s3⟩, dp, w, r, n⟩ := id b3
  have bt : bZ true = 1 := rfl
  rw [bt] at n w
  have R3 : Rd g z l (ts (ts (ts T2 27 b.length till) 0 59 (b.length + 1)) 0 61 0) q := ((R.tg (k := 27) (by decide) (by decide) (by decide) (by decide)).st (by omega)).st (by omega)
  obtain ⟨T3, n1, n2, n3, n4⟩ := rd_next (d := d) (m := m) (h := h) R3
  have st : M (d + 3) 7005 [.ref m] (tw m T h) = some (.inl (some (.int (zI (bZ true)))), tw m T3 h) := by
    rw [X7005 _ (tw_recv rfl), E7005_0]
    have hx : 0 ≤ (b.length : Int) ∧ (b.length : Int) < 45 := by omega
    generalize (b.length : Int) = x at s1 n n1 hx ⊢
    rcases ht with ⟨rfl, e1⟩ | ⟨rfl, e1, e2⟩
    · have e1' : isW g z l q 6385252 = true := e1
      simp (disch := omega) only [jc_ref, rI_int, rR_ref, rR_null, rJ_long, ckR_ref, ckR_null, ckr_ref, ckr_null, ckW_int, ckW_ref, ckW_null, cI_ok, cR_ok, cR_null, cV_ok, cJ_ok, qH_eq, qD_in, aG_ref, aS_ref, aL_ref, pF_ref, cK_ref, cK_null, zI_lit, zJ_lit, zI_add, zI_sub, zI_mul, zI_neg, zI_eq, zI_lt, zI_le, Int.reduceLT, Int.reduceLE, Int.reduceAdd, Int.reduceSub, Int.reduceMul, Int.reduceNeg, Int.reduceEq, Int.reduceNe, reduceIte, tw_0, tw_1, tw_2, tw_3, tw_4, tw_5, tw_6, tw_7, tw_8, tw_9, tw_10, tw_11, tw_12, tw_13, tw_14, tw_15, tw_16, tw_17, tw_18, tw_19, tw_20, tw_21, tw_22, tw_23, tw_24, tw_25, tw_26, tw_27, tw_28, tw_29, tw_30, tw_31, ob_0, ob_1, ob_2, ob_3, ob_4, ob_5, ob_6, ob_7, ob_8, ob_9, ob_10, ob_11, ob_12, ob_13, ob_14, ob_15, ob_16, ob_17, ob_18, ob_19, ob_20, ob_21, ob_22, ob_23, ob_24, ob_25, ob_26, ob_27, ob_28, ob_29, ob_30, ob_31, ob_32, ob_33, ob_34, ob_35, ob_36, ob_37, ob_38, ob_39, ob_40, ob_41, ob_42, ob_43, ob_44, ob_45, ob_46, ob_47, ob_48, ob_49, ob_50, ob_51, ob_52, ob_53, ob_54, ob_55, ob_56, ob_57, ob_58, ob_59, ob_60, ob_61, ob_62, ob_63, ob_64, ob_65, jf7, aGi, aGb, aGz, aGj, leT, leF, ltT, ltF, eqT, eqF, tws_0, tws_1, tws_2, tws_3, tws_4, tws_5, tws_6, tws_7, tws_8, tws_9, tws_10, tws_11, tws_12, tws_13, tws_14, tws_15, tws_16, tws_17, tws_18, tws_19, tws_20, tws_21, tws_22, tws_23, tws_24, tws_25, tws_26, tws_27, tws_28, tws_29, tws_30, tws_31, obs_0, obs_2, obs_3, obs_4, obs_5, obs_12, obs_13, obs_14, obs_15, obs_16, obs_17, obs_18, obs_19, obs_20, obs_21, obs_22, obs_26, obs_31, obs_32, obs_33, obs_34, obs_35, obs_41, obs_42, obs_44, obs_48, obs_50, obs_51, obs_52, obs_55, obs_57, obs_58, obs_59, obs_60, obs_61, pF7i, pF7z, pF7j, aSi, aSj, aSb1, aSb24, aSb28, aSb31, ts, tg_eq, tg_ne, tg_tg, fset_eq, fset_ne] at n1
      simp (disch := omega) only [jc_ref, rI_int, rR_ref, rR_null, rJ_long, ckR_ref, ckR_null, ckr_ref, ckr_null, ckW_int, ckW_ref, ckW_null, cI_ok, cR_ok, cR_null, cV_ok, cJ_ok, qH_eq, qD_in, aG_ref, aS_ref, aL_ref, pF_ref, cK_ref, cK_null, zI_lit, zJ_lit, zI_add, zI_sub, zI_mul, zI_neg, zI_eq, zI_lt, zI_le, Int.reduceLT, Int.reduceLE, Int.reduceAdd, Int.reduceSub, Int.reduceMul, Int.reduceNeg, Int.reduceEq, Int.reduceNe, reduceIte, tw_0, tw_1, tw_2, tw_3, tw_4, tw_5, tw_6, tw_7, tw_8, tw_9, tw_10, tw_11, tw_12, tw_13, tw_14, tw_15, tw_16, tw_17, tw_18, tw_19, tw_20, tw_21, tw_22, tw_23, tw_24, tw_25, tw_26, tw_27, tw_28, tw_29, tw_30, tw_31, ob_0, ob_1, ob_2, ob_3, ob_4, ob_5, ob_6, ob_7, ob_8, ob_9, ob_10, ob_11, ob_12, ob_13, ob_14, ob_15, ob_16, ob_17, ob_18, ob_19, ob_20, ob_21, ob_22, ob_23, ob_24, ob_25, ob_26, ob_27, ob_28, ob_29, ob_30, ob_31, ob_32, ob_33, ob_34, ob_35, ob_36, ob_37, ob_38, ob_39, ob_40, ob_41, ob_42, ob_43, ob_44, ob_45, ob_46, ob_47, ob_48, ob_49, ob_50, ob_51, ob_52, ob_53, ob_54, ob_55, ob_56, ob_57, ob_58, ob_59, ob_60, ob_61, ob_62, ob_63, ob_64, ob_65, jf7, aGi, aGb, aGz, aGj, leT, leF, ltT, ltF, eqT, eqF, tws_0, tws_1, tws_2, tws_3, tws_4, tws_5, tws_6, tws_7, tws_8, tws_9, tws_10, tws_11, tws_12, tws_13, tws_14, tws_15, tws_16, tws_17, tws_18, tws_19, tws_20, tws_21, tws_22, tws_23, tws_24, tws_25, tws_26, tws_27, tws_28, tws_29, tws_30, tws_31, obs_0, obs_2, obs_3, obs_4, obs_5, obs_12, obs_13, obs_14, obs_15, obs_16, obs_17, obs_18, obs_19, obs_20, obs_21, obs_22, obs_26, obs_31, obs_32, obs_33, obs_34, obs_35, obs_41, obs_42, obs_44, obs_48, obs_50, obs_51, obs_52, obs_55, obs_57, obs_58, obs_59, obs_60, obs_61, pF7i, pF7z, pF7j, aSi, aSj, aSb1, aSb24, aSb28, aSb31, ts, tg_eq, tg_ne, tg_tg, fset_eq, fset_ne, a1, w1, e1', beq_tt, beq_tf, beq_ft, beq_ff, Bool.true_and, Bool.false_and, Bool.and_true, Bool.and_false, Bool.true_or, Bool.false_or, Bool.or_true, Bool.or_false, Bool.true_eq_false, Bool.false_eq_true, Bool.not_true, Bool.not_false, bZ_t, bZ_f, zI_b0, zI_b1, zI_bb, okZ_0, okZ_1, E7005_42, b1, w3, s1, n1]
    · have e1' : isW g z l q 6385252 = false := e1
      have e2' : isW g z l q 28530 = true := e2
      simp (disch := omega) only [jc_ref, rI_int, rR_ref, rR_null, rJ_long, ckR_ref, ckR_null, ckr_ref, ckr_null, ckW_int, ckW_ref, ckW_null, cI_ok, cR_ok, cR_null, cV_ok, cJ_ok, qH_eq, qD_in, aG_ref, aS_ref, aL_ref, pF_ref, cK_ref, cK_null, zI_lit, zJ_lit, zI_add, zI_sub, zI_mul, zI_neg, zI_eq, zI_lt, zI_le, Int.reduceLT, Int.reduceLE, Int.reduceAdd, Int.reduceSub, Int.reduceMul, Int.reduceNeg, Int.reduceEq, Int.reduceNe, reduceIte, tw_0, tw_1, tw_2, tw_3, tw_4, tw_5, tw_6, tw_7, tw_8, tw_9, tw_10, tw_11, tw_12, tw_13, tw_14, tw_15, tw_16, tw_17, tw_18, tw_19, tw_20, tw_21, tw_22, tw_23, tw_24, tw_25, tw_26, tw_27, tw_28, tw_29, tw_30, tw_31, ob_0, ob_1, ob_2, ob_3, ob_4, ob_5, ob_6, ob_7, ob_8, ob_9, ob_10, ob_11, ob_12, ob_13, ob_14, ob_15, ob_16, ob_17, ob_18, ob_19, ob_20, ob_21, ob_22, ob_23, ob_24, ob_25, ob_26, ob_27, ob_28, ob_29, ob_30, ob_31, ob_32, ob_33, ob_34, ob_35, ob_36, ob_37, ob_38, ob_39, ob_40, ob_41, ob_42, ob_43, ob_44, ob_45, ob_46, ob_47, ob_48, ob_49, ob_50, ob_51, ob_52, ob_53, ob_54, ob_55, ob_56, ob_57, ob_58, ob_59, ob_60, ob_61, ob_62, ob_63, ob_64, ob_65, jf7, aGi, aGb, aGz, aGj, leT, leF, ltT, ltF, eqT, eqF, tws_0, tws_1, tws_2, tws_3, tws_4, tws_5, tws_6, tws_7, tws_8, tws_9, tws_10, tws_11, tws_12, tws_13, tws_14, tws_15, tws_16, tws_17, tws_18, tws_19, tws_20, tws_21, tws_22, tws_23, tws_24, tws_25, tws_26, tws_27, tws_28, tws_29, tws_30, tws_31, obs_0, obs_2, obs_3, obs_4, obs_5, obs_12, obs_13, obs_14, obs_15, obs_16, obs_17, obs_18, obs_19, obs_20, obs_21, obs_22, obs_26, obs_31, obs_32, obs_33, obs_34, obs_35, obs_41, obs_42, obs_44, obs_48, obs_50, obs_51, obs_52, obs_55, obs_57, obs_58, obs_59, obs_60, obs_61, pF7i, pF7z, pF7j, aSi, aSj, aSb1, aSb24, aSb28, aSb31, ts, tg_eq, tg_ne, tg_tg, fset_eq, fset_ne] at n1
      simp (disch := omega) only [jc_ref, rI_int, rR_ref, rR_null, rJ_long, ckR_ref, ckR_null, ckr_ref, ckr_null, ckW_int, ckW_ref, ckW_null, cI_ok, cR_ok, cR_null, cV_ok, cJ_ok, qH_eq, qD_in, aG_ref, aS_ref, aL_ref, pF_ref, cK_ref, cK_null, zI_lit, zJ_lit, zI_add, zI_sub, zI_mul, zI_neg, zI_eq, zI_lt, zI_le, Int.reduceLT, Int.reduceLE, Int.reduceAdd, Int.reduceSub, Int.reduceMul, Int.reduceNeg, Int.reduceEq, Int.reduceNe, reduceIte, tw_0, tw_1, tw_2, tw_3, tw_4, tw_5, tw_6, tw_7, tw_8, tw_9, tw_10, tw_11, tw_12, tw_13, tw_14, tw_15, tw_16, tw_17, tw_18, tw_19, tw_20, tw_21, tw_22, tw_23, tw_24, tw_25, tw_26, tw_27, tw_28, tw_29, tw_30, tw_31, ob_0, ob_1, ob_2, ob_3, ob_4, ob_5, ob_6, ob_7, ob_8, ob_9, ob_10, ob_11, ob_12, ob_13, ob_14, ob_15, ob_16, ob_17, ob_18, ob_19, ob_20, ob_21, ob_22, ob_23, ob_24, ob_25, ob_26, ob_27, ob_28, ob_29, ob_30, ob_31, ob_32, ob_33, ob_34, ob_35, ob_36, ob_37, ob_38, ob_39, ob_40, ob_41, ob_42, ob_43, ob_44, ob_45, ob_46, ob_47, ob_48, ob_49, ob_50, ob_51, ob_52, ob_53, ob_54, ob_55, ob_56, ob_57, ob_58, ob_59, ob_60, ob_61, ob_62, ob_63, ob_64, ob_65, jf7, aGi, aGb, aGz, aGj, leT, leF, ltT, ltF, eqT, eqF, tws_0, tws_1, tws_2, tws_3, tws_4, tws_5, tws_6, tws_7, tws_8, tws_9, tws_10, tws_11, tws_12, tws_13, tws_14, tws_15, tws_16, tws_17, tws_18, tws_19, tws_20, tws_21, tws_22, tws_23, tws_24, tws_25, tws_26, tws_27, tws_28, tws_29, tws_30, tws_31, obs_0, obs_2, obs_3, obs_4, obs_5, obs_12, obs_13, obs_14, obs_15, obs_16, obs_17, obs_18, obs_19, obs_20, obs_21, obs_22, obs_26, obs_31, obs_32, obs_33, obs_34, obs_35, obs_41, obs_42, obs_44, obs_48, obs_50, obs_51, obs_52, obs_55, obs_57, obs_58, obs_59, obs_60, obs_61, pF7i, pF7z, pF7j, aSi, aSj, aSb1, aSb24, aSb28, aSb31, ts, tg_eq, tg_ne, tg_tg, fset_eq, fset_ne, a1, w1, e1', w2, e2', beq_tt, beq_tf, beq_ft, beq_ff, Bool.true_and, Bool.false_and, Bool.and_true, Bool.and_false, Bool.true_or, Bool.false_or, Bool.or_true, Bool.or_false, Bool.true_eq_false, Bool.false_eq_true, Bool.not_true, Bool.not_false, bZ_t, bZ_f, zI_b0, zI_b1, zI_bb, okZ_0, okZ_1, E7005_42, b1, w3, s1, n1]
  refine ⟨T3, st, ((a2.tr b2).tr (((SnF.a (Or.inr rfl)).tr (SnF.f (by omega))).tr (SnF.f (by omega)))).tr (SnF.pf n2), n4, ⟨?_, ?_⟩, ?_, ⟨?_, ⟨?_, ?_⟩, ?_⟩, ?_, ?_, r, ?_⟩
  · rw [n2.2 57 (by omega)]; simp (disch := omega) only [ts, tg_eq, tg_ne, fset_ne]; exact c.1
  · rw [n2.1 4 (by decide)]; simp (disch := omega) only [ts, tg_eq, tg_ne]; exact c.2
  · rw [n2.2 58 (by omega)]; simp (disch := omega) only [ts, tg_eq, tg_ne, fset_ne]; exact o
  · rw [n2.2 59 (by omega)]; simp (disch := omega) only [ts, tg_eq, tg_ne, fset_ne, fset_eq]; simp
  · rw [n2.1 27 (by decide)]; simp (disch := omega) only [ts, tg_eq, tg_ne, fset_eq]
  · rw [n2.1 27 (by decide)]; simp (disch := omega) only [ts, tg_eq, tg_ne]; exact s2.up (Int.le_refl _)
  · intro u hu
    rcases List.mem_cons.mp hu with rfl | hu
    · omega
    · exact s3 u hu
  · rw [n2.2 60 (by omega)]; simp (disch := omega) only [ts, tg_eq, tg_ne, fset_ne]
    rw [dp]
    show _ = 1 + ((if till = 20 ∨ till = 23 then 1 else 0) + dpC b)
    rw [if_neg (by omega)]; omega
  · rw [n2.2 61 (by omega)]; simp (disch := omega) only [ts, tg_eq, tg_ne, fset_eq]; rfl
  · have b0 : bZ false = 0 := rfl
    simp only [List.length_cons]; rw [b0]; omega
/-- all that waits is done, up to a bracket -/
theorem tm_flush (s : SnS g z l T cds ones (List.replicate k 20 ++ (js ++ b)) true q) (hj : ∀ v ∈ js, v = 21 ∨ v = 22) (hb : ∀ v s, b = v :: s → v = 23) :
    ∃ T1 T2, M (d + 2) 7072 [.ref m] (tw m T h) = some (.inl none, tw m T1 h) ∧ Rd g z l T1 q ∧ M (d + 2) 7057 [.ref m, .int (zI 22)] (tw m T1 h) = some (.inl none, tw m T2 h) ∧ SnF T T2 ∧ SnS g z l T2 (cds ++ List.replicate k (cdO 20) ++ js.map cdO) ones b true q := by
  have h20 : ∀ v s, js ++ b = v :: s → v ≠ 20 := fun v ss e => by
    cases js with
    | nil => have := hb v ss e; omega
    | cons u t =>
      have := hj u List.mem_cons_self
      rw [List.cons_append, List.cons.injEq] at e
      rw [← e.1]; omega
  obtain ⟨T1, a1, a2, a3⟩ := tm_nots (d := d) (m := m) (h := h) s h20
  obtain ⟨T2, b1, b2, b3⟩ := tm_joins (d := d) (m := m) (h := h) (Or.inr rfl) a3 (fun v hv => jn22.mpr (hj v hv)) fun v s e x => by
    have h1 := hb v s e
    have h2 := jn22.mp x
    omega
  exact ⟨T1, T2, a1, a3.1, b1, a2.tr b2, b3⟩
/-- anything else -/
theorem tm_behB (s : SnS g z l T cds ones (List.replicate k 20 ++ (js ++ b)) true q) (hj : ∀ v ∈ js, v = 21 ∨ v = 22) (hb : ∀ v s, b = v :: s → v = 23) (h1 : isW g z l q wAND = false) (h2 : isW g z l q wOR = false) :
    ∃ T', SnF T T' ∧ if isS g z l q 41 = true ∧ b ≠ [] then M (d + 3) 7005 [.ref m] (tw m T h) = some (.inl (some (.int (zI (bZ true)))), tw m T' h) ∧ SnS g z l T' (cds ++ List.replicate k (cdO 20) ++ js.map cdO) ones b.tail true (nxt g z l q)
      else M (d + 3) 7005 [.ref m] (tw m T h) = some (.inl (some (.int (zI (bZ false)))), tw m T' h) ∧ Fl T' (erx g z l q 1) := by
  obtain ⟨T1, T2, a1, a3, b1, b2, b3⟩ := tm_flush (d := d) (m := m) (h := h) s hj hb
  have w1 := rd_isW (d := d + 1) (m := m) (h := h) a3 (w := 6385252) (by omega) (by omega)
  have w2 := rd_isW (d := d + 1) (m := m) (h := h) a3 (w := 28530) (by omega) (by omega)
  have w3 := rd_isS (d := d + 1) (m := m) (h := h) b3.1 (c := 41) (by omega) (by omega)
  have h1' : isW g z l q 6385252 = false := h1
  have h2' : isW g z l q 28530 = false := h2
  have bd := tm_bad (d := d + 1) (m := m) (h := h) (T := T2) (k := 1)
  obtain ⟨R, c, o, ⟨s1, s2, s3⟩, dp, w, r, n⟩ := id b3
  have bt : bZ true = 1 := rfl
  rw [bt] at n w
  by_cases e : isS g z l q 41 = true ∧ b ≠ []
  · obtain ⟨v, t, rfl⟩ : ∃ v t, b = v :: t := by
      cases b with
      | nil => exact absurd rfl e.2
      | cons v t => exact ⟨v, t, rfl⟩
    have hv := hb v t rfl
    subst hv
    have d1 : dpC (23 :: t) = 1 + dpC t := by show (if _ then _ else _) + _ = _; rw [if_pos (Or.inr rfl)]
    have p1 := b3.pop (x := (t.length : Int)) (y := 1 + dpC t) rfl rfl
    obtain ⟨T3, n1, n2, n3, n4⟩ := rd_next (d := d) (m := m) (h := h) p1.1
    refine ⟨T3, b2.tr (((SnF.f (by omega)).tr (SnF.f (by omega))).tr (SnF.pf n2)), ?_⟩
    rw [if_pos e]
    have e59 : T2 0 59 = (t.length : Int) + 1 := by rw [s1]; simp
    have e60 : T2 0 60 = 1 + (1 + dpC t) := by rw [dp, d1]
    obtain ⟨-, pc, po, ⟨ps1, ps2, ps3⟩, pdp, pw, pr, pn⟩ := p1
    refine ⟨?_, n4, ⟨(n2.2 57 (by omega)).trans pc.1, by rw [n2.1 4 (by decide)]; exact pc.2⟩, (n2.2 58 (by omega)).trans po, ⟨(n2.2 59 (by omega)).trans ps1, by rw [n2.1 27 (by decide)]; exact ps2, ps3⟩, (n2.2 60 (by omega)).trans pdp, (n2.2 61 (by omega)).trans pw, pr, pn⟩
    rw [X7005 _ (tw_recv rfl), E7005_0]
    have e41 := e.1
    simp only [List.length_cons] at n
    have hx : 0 ≤ (t.length : Int) ∧ (t.length : Int) < 45 := by omega
    generalize (t.length : Int) = x at e59 n1 n hx
    generalize dpC t = y at e60 n1
    simp (disch := omega) only [jc_ref, rI_int, rR_ref, rR_null, rJ_long, ckR_ref, ckR_null, ckr_ref, ckr_null, ckW_int, ckW_ref, ckW_null, cI_ok, cR_ok, cR_null, cV_ok, cJ_ok, qH_eq, qD_in, aG_ref, aS_ref, aL_ref, pF_ref, cK_ref, cK_null, zI_lit, zJ_lit, zI_add, zI_sub, zI_mul, zI_neg, zI_eq, zI_lt, zI_le, Int.reduceLT, Int.reduceLE, Int.reduceAdd, Int.reduceSub, Int.reduceMul, Int.reduceNeg, Int.reduceEq, Int.reduceNe, reduceIte, tw_0, tw_1, tw_2, tw_3, tw_4, tw_5, tw_6, tw_7, tw_8, tw_9, tw_10, tw_11, tw_12, tw_13, tw_14, tw_15, tw_16, tw_17, tw_18, tw_19, tw_20, tw_21, tw_22, tw_23, tw_24, tw_25, tw_26, tw_27, tw_28, tw_29, tw_30, tw_31, ob_0, ob_1, ob_2, ob_3, ob_4, ob_5, ob_6, ob_7, ob_8, ob_9, ob_10, ob_11, ob_12, ob_13, ob_14, ob_15, ob_16, ob_17, ob_18, ob_19, ob_20, ob_21, ob_22, ob_23, ob_24, ob_25, ob_26, ob_27, ob_28, ob_29, ob_30, ob_31, ob_32, ob_33, ob_34, ob_35, ob_36, ob_37, ob_38, ob_39, ob_40, ob_41, ob_42, ob_43, ob_44, ob_45, ob_46, ob_47, ob_48, ob_49, ob_50, ob_51, ob_52, ob_53, ob_54, ob_55, ob_56, ob_57, ob_58, ob_59, ob_60, ob_61, ob_62, ob_63, ob_64, ob_65, jf7, aGi, aGb, aGz, aGj, leT, leF, ltT, ltF, eqT, eqF, tws_0, tws_1, tws_2, tws_3, tws_4, tws_5, tws_6, tws_7, tws_8, tws_9, tws_10, tws_11, tws_12, tws_13, tws_14, tws_15, tws_16, tws_17, tws_18, tws_19, tws_20, tws_21, tws_22, tws_23, tws_24, tws_25, tws_26, tws_27, tws_28, tws_29, tws_30, tws_31, obs_0, obs_2, obs_3, obs_4, obs_5, obs_12, obs_13, obs_14, obs_15, obs_16, obs_17, obs_18, obs_19, obs_20, obs_21, obs_22, obs_26, obs_31, obs_32, obs_33, obs_34, obs_35, obs_41, obs_42, obs_44, obs_48, obs_50, obs_51, obs_52, obs_55, obs_57, obs_58, obs_59, obs_60, obs_61, pF7i, pF7z, pF7j, aSi, aSj, aSb1, aSb24, aSb28, aSb31, ts, tg_eq, tg_ne, tg_tg, fset_eq, fset_ne] at n1
    simp (disch := omega) only [jc_ref, rI_int, rR_ref, rR_null, rJ_long, ckR_ref, ckR_null, ckr_ref, ckr_null, ckW_int, ckW_ref, ckW_null, cI_ok, cR_ok, cR_null, cV_ok, cJ_ok, qH_eq, qD_in, aG_ref, aS_ref, aL_ref, pF_ref, cK_ref, cK_null, zI_lit, zJ_lit, zI_add, zI_sub, zI_mul, zI_neg, zI_eq, zI_lt, zI_le, Int.reduceLT, Int.reduceLE, Int.reduceAdd, Int.reduceSub, Int.reduceMul, Int.reduceNeg, Int.reduceEq, Int.reduceNe, reduceIte, tw_0, tw_1, tw_2, tw_3, tw_4, tw_5, tw_6, tw_7, tw_8, tw_9, tw_10, tw_11, tw_12, tw_13, tw_14, tw_15, tw_16, tw_17, tw_18, tw_19, tw_20, tw_21, tw_22, tw_23, tw_24, tw_25, tw_26, tw_27, tw_28, tw_29, tw_30, tw_31, ob_0, ob_1, ob_2, ob_3, ob_4, ob_5, ob_6, ob_7, ob_8, ob_9, ob_10, ob_11, ob_12, ob_13, ob_14, ob_15, ob_16, ob_17, ob_18, ob_19, ob_20, ob_21, ob_22, ob_23, ob_24, ob_25, ob_26, ob_27, ob_28, ob_29, ob_30, ob_31, ob_32, ob_33, ob_34, ob_35, ob_36, ob_37, ob_38, ob_39, ob_40, ob_41, ob_42, ob_43, ob_44, ob_45, ob_46, ob_47, ob_48, ob_49, ob_50, ob_51, ob_52, ob_53, ob_54, ob_55, ob_56, ob_57, ob_58, ob_59, ob_60, ob_61, ob_62, ob_63, ob_64, ob_65, jf7, aGi, aGb, aGz, aGj, leT, leF, ltT, ltF, eqT, eqF, tws_0, tws_1, tws_2, tws_3, tws_4, tws_5, tws_6, tws_7, tws_8, tws_9, tws_10, tws_11, tws_12, tws_13, tws_14, tws_15, tws_16, tws_17, tws_18, tws_19, tws_20, tws_21, tws_22, tws_23, tws_24, tws_25, tws_26, tws_27, tws_28, tws_29, tws_30, tws_31, obs_0, obs_2, obs_3, obs_4, obs_5, obs_12, obs_13, obs_14, obs_15, obs_16, obs_17, obs_18, obs_19, obs_20, obs_21, obs_22, obs_26, obs_31, obs_32, obs_33, obs_34, obs_35, obs_41, obs_42, obs_44, obs_48, obs_50, obs_51, obs_52, obs_55, obs_57, obs_58, obs_59, obs_60, obs_61, pF7i, pF7z, pF7j, aSi, aSj, aSb1, aSb24, aSb28, aSb31, ts, tg_eq, tg_ne, tg_tg, fset_eq, fset_ne, a1, w1, h1', w2, h2', beq_tt, beq_tf, beq_ft, beq_ff, Bool.true_and, Bool.false_and, Bool.and_true, Bool.and_false, Bool.true_or, Bool.false_or, Bool.or_true, Bool.or_false, Bool.true_eq_false, Bool.false_eq_true, Bool.not_true, Bool.not_false, bZ_t, bZ_f, zI_b0, zI_b1, zI_bb, okZ_0, okZ_1, b1, w3, e41, e59, e60, show (x + 1 - 1) = x by omega, show (1 + (1 + y) - 1) = 1 + y by omega, n1]
  · refine ⟨bdT T2 1, b2.tr (SnF.pf bd_pf), ?_⟩
    rw [if_neg e]
    refine ⟨?_, rd_fl R fun _ => rfl⟩
    rw [X7005 _ (tw_recv rfl), E7005_0]
    cases e41 : isS g z l q 41 with
    | false => simp (disch := omega) only [jc_ref, rI_int, rR_ref, rR_null, rJ_long, ckR_ref, ckR_null, ckr_ref, ckr_null, ckW_int, ckW_ref, ckW_null, cI_ok, cR_ok, cR_null, cV_ok, cJ_ok, qH_eq, qD_in, aG_ref, aS_ref, aL_ref, pF_ref, cK_ref, cK_null, zI_lit, zJ_lit, zI_add, zI_sub, zI_mul, zI_neg, zI_eq, zI_lt, zI_le, Int.reduceLT, Int.reduceLE, Int.reduceAdd, Int.reduceSub, Int.reduceMul, Int.reduceNeg, Int.reduceEq, Int.reduceNe, reduceIte, tw_0, tw_1, tw_2, tw_3, tw_4, tw_5, tw_6, tw_7, tw_8, tw_9, tw_10, tw_11, tw_12, tw_13, tw_14, tw_15, tw_16, tw_17, tw_18, tw_19, tw_20, tw_21, tw_22, tw_23, tw_24, tw_25, tw_26, tw_27, tw_28, tw_29, tw_30, tw_31, ob_0, ob_1, ob_2, ob_3, ob_4, ob_5, ob_6, ob_7, ob_8, ob_9, ob_10, ob_11, ob_12, ob_13, ob_14, ob_15, ob_16, ob_17, ob_18, ob_19, ob_20, ob_21, ob_22, ob_23, ob_24, ob_25, ob_26, ob_27, ob_28, ob_29, ob_30, ob_31, ob_32, ob_33, ob_34, ob_35, ob_36, ob_37, ob_38, ob_39, ob_40, ob_41, ob_42, ob_43, ob_44, ob_45, ob_46, ob_47, ob_48, ob_49, ob_50, ob_51, ob_52, ob_53, ob_54, ob_55, ob_56, ob_57, ob_58, ob_59, ob_60, ob_61, ob_62, ob_63, ob_64, ob_65, jf7, aGi, aGb, aGz, aGj, leT, leF, ltT, ltF, eqT, eqF, a1, w1, h1', w2, h2', beq_tt, beq_tf, beq_ft, beq_ff, Bool.true_and, Bool.false_and, Bool.and_true, Bool.and_false, Bool.true_or, Bool.false_or, Bool.or_true, Bool.or_false, Bool.true_eq_false, Bool.false_eq_true, Bool.not_true, Bool.not_false, bZ_t, bZ_f, zI_b0, zI_b1, zI_bb, okZ_0, okZ_1, b1, w3, e41, bd, okZ_b]
    | true =>
      have b0 : b = [] := by
        cases b with
        | nil => rfl
        | cons v t => exact absurd ⟨e41, by simp⟩ e
      have e59 : T2 0 59 = 0 := by rw [s1, b0]; rfl
      simp (disch := omega) only [jc_ref, rI_int, rR_ref, rR_null, rJ_long, ckR_ref, ckR_null, ckr_ref, ckr_null, ckW_int, ckW_ref, ckW_null, cI_ok, cR_ok, cR_null, cV_ok, cJ_ok, qH_eq, qD_in, aG_ref, aS_ref, aL_ref, pF_ref, cK_ref, cK_null, zI_lit, zJ_lit, zI_add, zI_sub, zI_mul, zI_neg, zI_eq, zI_lt, zI_le, Int.reduceLT, Int.reduceLE, Int.reduceAdd, Int.reduceSub, Int.reduceMul, Int.reduceNeg, Int.reduceEq, Int.reduceNe, reduceIte, tw_0, tw_1, tw_2, tw_3, tw_4, tw_5, tw_6, tw_7, tw_8, tw_9, tw_10, tw_11, tw_12, tw_13, tw_14, tw_15, tw_16, tw_17, tw_18, tw_19, tw_20, tw_21, tw_22, tw_23, tw_24, tw_25, tw_26, tw_27, tw_28, tw_29, tw_30, tw_31, ob_0, ob_1, ob_2, ob_3, ob_4, ob_5, ob_6, ob_7, ob_8, ob_9, ob_10, ob_11, ob_12, ob_13, ob_14, ob_15, ob_16, ob_17, ob_18, ob_19, ob_20, ob_21, ob_22, ob_23, ob_24, ob_25, ob_26, ob_27, ob_28, ob_29, ob_30, ob_31, ob_32, ob_33, ob_34, ob_35, ob_36, ob_37, ob_38, ob_39, ob_40, ob_41, ob_42, ob_43, ob_44, ob_45, ob_46, ob_47, ob_48, ob_49, ob_50, ob_51, ob_52, ob_53, ob_54, ob_55, ob_56, ob_57, ob_58, ob_59, ob_60, ob_61, ob_62, ob_63, ob_64, ob_65, jf7, aGi, aGb, aGz, aGj, leT, leF, ltT, ltF, eqT, eqF, a1, w1, h1', w2, h2', beq_tt, beq_tf, beq_ft, beq_ff, Bool.true_and, Bool.false_and, Bool.and_true, Bool.and_false, Bool.true_or, Bool.false_or, Bool.or_true, Bool.or_false, Bool.true_eq_false, Bool.false_eq_true, Bool.not_true, Bool.not_false, bZ_t, bZ_f, zI_b0, zI_b1, zI_bb, okZ_0, okZ_1, b1, w3, e41, bd, okZ_b, e59]
/-- the loop over a sentence's tokens -/
noncomputable def snR (d m : Nat) (T : Nat → Int → Int) (h : AH) : Rz := G (d + 5) 7101 48 [.ref m, .int (zI 1), jno] [] (tw m T h)
theorem sn_op (s : SnS g z l T cds ones st false q) (W : ScW (T 2)) : ∃ T', SnF T T' ∧ match opP g z l (T 2) (T 6) (dpC st) ones q with
      | .error e => snR d m T h = some (.inl (some (.int (zI (-1 - e.2)))), tw m T' h) ∧ Fl T' e
      | .ok a => snR d m T h = snR d m T' h ∧ SnS g z l T' (cds ++ a.1) (ones + 1) (a.2.1 ++ st) a.2.2.1 a.2.2.2 := by
  have w := s.2.2.2.2.2.1
  have b0 : bZ false = 0 := rfl
  rw [b0] at w
  obtain ⟨T', t1, t2, t3⟩ := tm_operand (d := d) (m := m) (h := h) s W
  refine ⟨T', t2, ?_⟩
  cases hr : opP g z l (T 2) (T 6) (dpC st) ones q with
  | error e =>
    rw [hr] at t1 t3
    have f17 := t3.2
    refine ⟨?_, t3⟩
    unfold snR
    rw [E7101_48]
    simp (disch := omega) only [jc_ref, rI_int, rR_ref, rR_null, rJ_long, ckR_ref, ckR_null, ckr_ref, ckr_null, ckW_int, ckW_ref, ckW_null, cI_ok, cR_ok, cR_null, cV_ok, cJ_ok, qH_eq, qD_in, aG_ref, aS_ref, aL_ref, pF_ref, cK_ref, cK_null, zI_lit, zJ_lit, zI_add, zI_sub, zI_mul, zI_neg, zI_eq, zI_lt, zI_le, Int.reduceLT, Int.reduceLE, Int.reduceAdd, Int.reduceSub, Int.reduceMul, Int.reduceNeg, Int.reduceEq, Int.reduceNe, reduceIte, tw_0, tw_1, tw_2, tw_3, tw_4, tw_5, tw_6, tw_7, tw_8, tw_9, tw_10, tw_11, tw_12, tw_13, tw_14, tw_15, tw_16, tw_17, tw_18, tw_19, tw_20, tw_21, tw_22, tw_23, tw_24, tw_25, tw_26, tw_27, tw_28, tw_29, tw_30, tw_31, ob_0, ob_1, ob_2, ob_3, ob_4, ob_5, ob_6, ob_7, ob_8, ob_9, ob_10, ob_11, ob_12, ob_13, ob_14, ob_15, ob_16, ob_17, ob_18, ob_19, ob_20, ob_21, ob_22, ob_23, ob_24, ob_25, ob_26, ob_27, ob_28, ob_29, ob_30, ob_31, ob_32, ob_33, ob_34, ob_35, ob_36, ob_37, ob_38, ob_39, ob_40, ob_41, ob_42, ob_43, ob_44, ob_45, ob_46, ob_47, ob_48, ob_49, ob_50, ob_51, ob_52, ob_53, ob_54, ob_55, ob_56, ob_57, ob_58, ob_59, ob_60, ob_61, ob_62, ob_63, ob_64, ob_65, jf7, aGi, aGb, aGz, aGj, leT, leF, ltT, ltF, eqT, eqF, w, E7101_101, t1, isK, beq_tt, beq_tf, beq_ft, beq_ff, Bool.true_and, Bool.false_and, Bool.and_true, Bool.and_false, Bool.true_or, Bool.false_or, Bool.or_true, Bool.or_false, Bool.true_eq_false, Bool.false_eq_true, Bool.not_true, Bool.not_false, bZ_t, bZ_f, zI_b0, zI_b1, zI_bb, okZ_0, okZ_1, f17]
  | ok a =>
    rw [hr] at t1 t3
    refine ⟨?_, t3⟩
    unfold snR
    conv => lhs; rw [E7101_48]
    simp (disch := omega) only [jc_ref, rI_int, rR_ref, rR_null, rJ_long, ckR_ref, ckR_null, ckr_ref, ckr_null, ckW_int, ckW_ref, ckW_null, cI_ok, cR_ok, cR_null, cV_ok, cJ_ok, qH_eq, qD_in, aG_ref, aS_ref, aL_ref, pF_ref, cK_ref, cK_null, zI_lit, zJ_lit, zI_add, zI_sub, zI_mul, zI_neg, zI_eq, zI_lt, zI_le, Int.reduceLT, Int.reduceLE, Int.reduceAdd, Int.reduceSub, Int.reduceMul, Int.reduceNeg, Int.reduceEq, Int.reduceNe, reduceIte, tw_0, tw_1, tw_2, tw_3, tw_4, tw_5, tw_6, tw_7, tw_8, tw_9, tw_10, tw_11, tw_12, tw_13, tw_14, tw_15, tw_16, tw_17, tw_18, tw_19, tw_20, tw_21, tw_22, tw_23, tw_24, tw_25, tw_26, tw_27, tw_28, tw_29, tw_30, tw_31, ob_0, ob_1, ob_2, ob_3, ob_4, ob_5, ob_6, ob_7, ob_8, ob_9, ob_10, ob_11, ob_12, ob_13, ob_14, ob_15, ob_16, ob_17, ob_18, ob_19, ob_20, ob_21, ob_22, ob_23, ob_24, ob_25, ob_26, ob_27, ob_28, ob_29, ob_30, ob_31, ob_32, ob_33, ob_34, ob_35, ob_36, ob_37, ob_38, ob_39, ob_40, ob_41, ob_42, ob_43, ob_44, ob_45, ob_46, ob_47, ob_48, ob_49, ob_50, ob_51, ob_52, ob_53, ob_54, ob_55, ob_56, ob_57, ob_58, ob_59, ob_60, ob_61, ob_62, ob_63, ob_64, ob_65, jf7, aGi, aGb, aGz, aGj, leT, leF, ltT, ltF, eqT, eqF, w, E7101_101, t1, isK, beq_tt, beq_tf, beq_ft, beq_ff, Bool.true_and, Bool.false_and, Bool.and_true, Bool.and_false, Bool.true_or, Bool.false_or, Bool.or_true, Bool.or_false, Bool.true_eq_false, Bool.false_eq_true, Bool.not_true, Bool.not_false, bZ_t, bZ_f, zI_b0, zI_b1, zI_bb, okZ_0, okZ_1]
theorem sn_be {v : Bool} {T' : Nat → Int → Int} (s : SnS g z l T cds ones st true q) (hk : kd g z l q ≠ 0) (b : M (d + 5) 7005 [.ref m] (tw m T h) = some (.inl (some (.int (zI (bZ v)))), tw m T' h)) :
    snR d m T h = if v = true then snR d m T' h else some (.inl (some (.int (zI (-1 - T' 0 17)))), tw m T' h) := by
  have w := s.2.2.2.2.2.1
  have b1 : bZ true = 1 := rfl
  rw [b1] at w
  have k12 := s.1.k12
  have kr := kd_rg (g := g) (z := z) (l := l) q
  unfold snR
  conv => lhs; rw [E7101_48]
  cases v with
  | true =>
    rw [if_pos rfl]
    simp (disch := omega) only [jc_ref, rI_int, rR_ref, rR_null, rJ_long, ckR_ref, ckR_null, ckr_ref, ckr_null, ckW_int, ckW_ref, ckW_null, cI_ok, cR_ok, cR_null, cV_ok, cJ_ok, qH_eq, qD_in, aG_ref, aS_ref, aL_ref, pF_ref, cK_ref, cK_null, zI_lit, zJ_lit, zI_add, zI_sub, zI_mul, zI_neg, zI_eq, zI_lt, zI_le, Int.reduceLT, Int.reduceLE, Int.reduceAdd, Int.reduceSub, Int.reduceMul, Int.reduceNeg, Int.reduceEq, Int.reduceNe, reduceIte, tw_0, tw_1, tw_2, tw_3, tw_4, tw_5, tw_6, tw_7, tw_8, tw_9, tw_10, tw_11, tw_12, tw_13, tw_14, tw_15, tw_16, tw_17, tw_18, tw_19, tw_20, tw_21, tw_22, tw_23, tw_24, tw_25, tw_26, tw_27, tw_28, tw_29, tw_30, tw_31, ob_0, ob_1, ob_2, ob_3, ob_4, ob_5, ob_6, ob_7, ob_8, ob_9, ob_10, ob_11, ob_12, ob_13, ob_14, ob_15, ob_16, ob_17, ob_18, ob_19, ob_20, ob_21, ob_22, ob_23, ob_24, ob_25, ob_26, ob_27, ob_28, ob_29, ob_30, ob_31, ob_32, ob_33, ob_34, ob_35, ob_36, ob_37, ob_38, ob_39, ob_40, ob_41, ob_42, ob_43, ob_44, ob_45, ob_46, ob_47, ob_48, ob_49, ob_50, ob_51, ob_52, ob_53, ob_54, ob_55, ob_56, ob_57, ob_58, ob_59, ob_60, ob_61, ob_62, ob_63, ob_64, ob_65, jf7, aGi, aGb, aGz, aGj, leT, leF, ltT, ltF, eqT, eqF, w, k12, hk, E7101_101, b, beq_tt, beq_tf, beq_ft, beq_ff, Bool.true_and, Bool.false_and, Bool.and_true, Bool.and_false, Bool.true_or, Bool.false_or, Bool.or_true, Bool.or_false, Bool.true_eq_false, Bool.false_eq_true, Bool.not_true, Bool.not_false, bZ_t, bZ_f, zI_b0, zI_b1, zI_bb, okZ_0, okZ_1]
  | false =>
    rw [if_neg (by decide)]
    simp (disch := omega) only [jc_ref, rI_int, rR_ref, rR_null, rJ_long, ckR_ref, ckR_null, ckr_ref, ckr_null, ckW_int, ckW_ref, ckW_null, cI_ok, cR_ok, cR_null, cV_ok, cJ_ok, qH_eq, qD_in, aG_ref, aS_ref, aL_ref, pF_ref, cK_ref, cK_null, zI_lit, zJ_lit, zI_add, zI_sub, zI_mul, zI_neg, zI_eq, zI_lt, zI_le, Int.reduceLT, Int.reduceLE, Int.reduceAdd, Int.reduceSub, Int.reduceMul, Int.reduceNeg, Int.reduceEq, Int.reduceNe, reduceIte, tw_0, tw_1, tw_2, tw_3, tw_4, tw_5, tw_6, tw_7, tw_8, tw_9, tw_10, tw_11, tw_12, tw_13, tw_14, tw_15, tw_16, tw_17, tw_18, tw_19, tw_20, tw_21, tw_22, tw_23, tw_24, tw_25, tw_26, tw_27, tw_28, tw_29, tw_30, tw_31, ob_0, ob_1, ob_2, ob_3, ob_4, ob_5, ob_6, ob_7, ob_8, ob_9, ob_10, ob_11, ob_12, ob_13, ob_14, ob_15, ob_16, ob_17, ob_18, ob_19, ob_20, ob_21, ob_22, ob_23, ob_24, ob_25, ob_26, ob_27, ob_28, ob_29, ob_30, ob_31, ob_32, ob_33, ob_34, ob_35, ob_36, ob_37, ob_38, ob_39, ob_40, ob_41, ob_42, ob_43, ob_44, ob_45, ob_46, ob_47, ob_48, ob_49, ob_50, ob_51, ob_52, ob_53, ob_54, ob_55, ob_56, ob_57, ob_58, ob_59, ob_60, ob_61, ob_62, ob_63, ob_64, ob_65, jf7, aGi, aGb, aGz, aGj, leT, leF, ltT, ltF, eqT, eqF, w, k12, hk, E7101_101, b, beq_tt, beq_tf, beq_ft, beq_ff, Bool.true_and, Bool.false_and, Bool.and_true, Bool.and_false, Bool.true_or, Bool.false_or, Bool.or_true, Bool.or_false, Bool.true_eq_false, Bool.false_eq_true, Bool.not_true, Bool.not_false, bZ_t, bZ_f, zI_b0, zI_b1, zI_bb, okZ_0, okZ_1]
/-- how what waits of an operand looks: joins of a level -/
def JsW (lvl : Nat) (js : List Int) : Prop := js = [] ∨ (1 ≤ lvl ∧ js = [21]) ∨ (2 ≤ lvl ∧ (js = [22] ∨ js = [21, 22]))
def RsS (g : Int → Int) (z l : Int) (d m : Nat) (h : AH) (lvl : Nat) (r : Except Er SR) (T : Nat → Int → Int) (cds : List Cd) (b : List Int) (ones : Int) : Prop := match r with
  | .error e => ∃ T', SnF T T' ∧ snR d m T h = some (.inl (some (.int (zI (-1 - e.2)))), tw m T' h) ∧ Fl T' e
  | .ok a => ∃ (T' : Nat → Int → Int) (k : Nat) (js : List Int) (cs : List Cd), SnF T T' ∧ snR d m T h = snR d m T' h ∧ JsW lvl js ∧ cs ++ List.replicate k (cdO 20) ++ js.map cdO = a.1 ∧ SnS g z l T' (cds ++ cs) a.2.1 (List.replicate k 20 ++ (js ++ b)) true a.2.2 ∧ ones ≤ a.2.1 ∧ (1 ≤ lvl → isW g z l a.2.2 wAND = false) ∧ (2 ≤ lvl → isW g z l a.2.2 wOR = false)
/-- what is said of a reader of operands -/
def SaW (g : Int → Int) (z l : Int) (d m : Nat) (h : AH) (S nm : Int → Int) (lvl : Nat) (D : Int) (J : Int → Prop) (sa : Int → Int → Except Er SR) : Prop := ∀ (T : Nat → Int → Int) (cds : List Cd) (ones : Int) (b : List Int) (q : Int), SnS g z l T cds ones b false q → T 2 = S → T 6 = nm → dpC b = D → (∀ v s, b = v :: s → J v) → RsS g z l d m h lvl (sa ones q) T cds b (ones + 1)
theorem SnF.e2 {T T' : Nat → Int → Int} (f : SnF T T') : T' 2 = T 2 := f.1 2 (by decide) (by decide) (by decide)
theorem SnF.e6 {T T' : Nat → Int → Int} (f : SnF T T') : T' 6 = T 6 := f.1 6 (by decide) (by decide) (by decide)
theorem RsS.back {lvl : Nat} {r : Except Er SR} {T T1 : Nat → Int → Int} (w : RsS g z l d m h lvl r T1 cds b ones) (f : SnF T T1) (e : snR d m T h = snR d m T1 h) : RsS g z l d m h lvl r T cds b ones := by
  cases r with
  | error x =>
    obtain ⟨T', a, c, i⟩ := w
    exact ⟨T', f.tr a, e.trans c, i⟩
  | ok a =>
    obtain ⟨T', k, js, cs, a1, a2, a3⟩ := w
    exact ⟨T', k, js, cs, f.tr a1, e.trans a2, a3⟩
theorem an_loop {sa : Int → Int → Except Er SR} {D : Int} {J : Int → Prop} (hsa : SaW g z l d m h S nm 0 D (fun _ => True) sa) (hb : ∀ v s, b = v :: s → v = 22 ∨ v = 23) (hD : dpC b = D) : ∀ (n : Nat) (a : SR) (T : Nat → Int → Int) (k : Nat) (js : List Int) (cs : List Cd), JsW 1 js → cs ++ List.replicate k (cdO 20) ++ js.map cdO = a.1 → SnS g z l T (cds ++ cs) a.2.1 (List.replicate k 20 ++ (js ++ b)) true a.2.2 → T 2 = S → T 6 = nm → 21 ≤ n + a.2.1 → ones ≤ a.2.1 → RsS g z l d m h 1 (anL g z l sa n a) T cds b ones := by
  intro n
  induction n with
  | zero =>
    intro a T k js cs j1 c1 s e2 e6 hn ho
    have := s.2.2.2.2.2.2.1
    omega
  | succ n ih =>
    intro a T k js cs j1 c1 s e2 e6 hn ho
    have jb : ∀ v ∈ js, jnB 21 v := fun v hv => by
      rcases j1 with rfl | ⟨-, rfl⟩ | ⟨x, -⟩
      · cases hv
      · simp at hv; exact Or.inl hv
      · omega
    unfold anL
    by_cases w1 : isW g z l a.2.2 wAND = true
    · rw [if_pos w1]
      obtain ⟨T1, a1, a2, a3⟩ := tm_behA (d := d + 2) (m := m) (h := h) (till := 21) s (Or.inl ⟨rfl, w1⟩) jb fun v t e => by
        have := hb v t e
        exact ⟨by rw [jn21]; omega, by omega⟩
      have hk : kd g z l a.2.2 ≠ 0 := by have := isW_k w1; omega
      have r1 := sn_be (d := d) (h := h) s hk a1
      rw [if_pos rfl] at r1
      rw [show cds ++ cs ++ List.replicate k (cdO 20) ++ js.map cdO = cds ++ a.1 by rw [← c1]; simp] at a3
      have hd : dpC (21 :: b) = D := by show (if _ then _ else _) + _ = _; rw [if_neg (by omega), hD]; omega
      have w := hsa T1 (cds ++ a.1) a.2.1 (21 :: b) (nxt g z l a.2.2) a3 (a2.e2.trans e2) (a2.e6.trans e6) hd (fun _ _ _ => trivial)
      cases hr : sa a.2.1 (nxt g z l a.2.2) with
      | error e =>
        rw [hr] at w
        rw [eb_er]
        obtain ⟨T', t1, t2, t3⟩ := w
        exact ⟨T', a2.tr t1, r1.trans t2, t3⟩
      | ok b' =>
        rw [hr] at w
        rw [eb_ok]
        obtain ⟨T', k', js', cs', t1, t2, t3, t4, t5, t6, -⟩ := w
        have j0 : js' = [] := by
          rcases t3 with x | ⟨x, -⟩ | ⟨x, -⟩
          · exact x
          · omega
          · omega
        subst j0
        simp only [List.map_nil, List.append_nil, List.nil_append] at t4 t5
        have := ih (a.1 ++ b'.1 ++ [(21, 0, 0)], b'.2) T' k' [21] (a.1 ++ cs') (Or.inr (Or.inl ⟨Nat.le_refl _, rfl⟩)) (by rw [← t4]; simp) (by rw [show cds ++ (a.1 ++ cs') = cds ++ a.1 ++ cs' by simp]; exact t5) (t1.e2.trans (a2.e2.trans e2)) (t1.e6.trans (a2.e6.trans e6)) (by show 21 ≤ (n : Int) + b'.2.1; omega) (by show ones ≤ b'.2.1; omega)
        exact this.back (a2.tr t1) (r1.trans t2)
    · rw [if_neg w1]
      exact ⟨T, k, js, cs, SnF.rf, rfl, j1, c1, s, ho, fun _ => Bool.eq_false_iff.mpr w1, fun x => by omega⟩
theorem an_W {sa : Int → Int → Except Er SR} {D : Int} (hsa : SaW g z l d m h S nm 0 D (fun _ => True) sa) : SaW g z l d m h S nm 1 D (fun v => v = 22 ∨ v = 23) (anP g z l sa) := by
  intro T cds ones b q s e2 e6 hD hb
  have w := hsa T cds ones b q s e2 e6 hD (fun _ _ _ => trivial)
  unfold anP
  cases hr : sa ones q with
  | error e => rw [hr] at w; exact w
  | ok a =>
    rw [hr] at w
    rw [eb_ok]
    obtain ⟨T', k, js, cs, t1, t2, t3, t4, t5, t6, -⟩ := w
    have j0 : js = [] := by
      rcases t3 with x | ⟨x, -⟩ | ⟨x, -⟩
      · exact x
      · omega
      · omega
    subst j0
    have r := s.2.2.2.2.2.2.1
    exact (an_loop (J := fun _ => True) hsa hb hD 21 a T' k [] cs (Or.inl rfl) t4 t5 (t1.e2.trans e2) (t1.e6.trans e6) (by omega) t6).back t1 t2
theorem or_loop {sa : Int → Int → Except Er SR} {D : Int} (hsa : SaW g z l d m h S nm 1 D (fun v => v = 22 ∨ v = 23) (anP g z l sa)) (hb : ∀ v s, b = v :: s → v = 23) (hD : dpC b = D) : ∀ (n : Nat) (a : SR) (T : Nat → Int → Int) (k : Nat) (js : List Int) (cs : List Cd), JsW 2 js → cs ++ List.replicate k (cdO 20) ++ js.map cdO = a.1 → SnS g z l T (cds ++ cs) a.2.1 (List.replicate k 20 ++ (js ++ b)) true a.2.2 → T 2 = S → T 6 = nm → 21 ≤ n + a.2.1 → ones ≤ a.2.1 → isW g z l a.2.2 wAND = false → RsS g z l d m h 2 (orL g z l sa n a) T cds b ones := by
  intro n
  induction n with
  | zero =>
    intro a T k js cs j1 c1 s e2 e6 hn ho _
    have := s.2.2.2.2.2.2.1
    omega
  | succ n ih =>
    intro a T k js cs j1 c1 s e2 e6 hn ho hA
    have jb : ∀ v ∈ js, jnB 22 v := fun v hv => by
      rw [jn22]
      rcases j1 with rfl | ⟨-, rfl⟩ | ⟨-, rfl | rfl⟩
      · cases hv
      · simp at hv; omega
      · simp at hv; omega
      · simp at hv; omega
    unfold orL
    by_cases w1 : isW g z l a.2.2 wOR = true
    · rw [if_pos w1]
      obtain ⟨T1, a1, a2, a3⟩ := tm_behA (d := d + 2) (m := m) (h := h) (till := 22) s (Or.inr ⟨rfl, hA, w1⟩) jb fun v t e => by
        have := hb v t e
        exact ⟨by rw [jn22]; omega, by omega⟩
      have hk : kd g z l a.2.2 ≠ 0 := by have := isW_k w1; omega
      have r1 := sn_be (d := d) (h := h) s hk a1
      rw [if_pos rfl] at r1
      rw [show cds ++ cs ++ List.replicate k (cdO 20) ++ js.map cdO = cds ++ a.1 by rw [← c1]; simp] at a3
      have hd : dpC (22 :: b) = D := by show (if _ then _ else _) + _ = _; rw [if_neg (by omega), hD]; omega
      have w := hsa T1 (cds ++ a.1) a.2.1 (22 :: b) (nxt g z l a.2.2) a3 (a2.e2.trans e2) (a2.e6.trans e6) hd (fun v t e => by rw [List.cons.injEq] at e; exact Or.inl e.1.symm)
      cases hr : anP g z l sa a.2.1 (nxt g z l a.2.2) with
      | error e =>
        rw [hr] at w
        rw [eb_er]
        obtain ⟨T', t1, t2, t3⟩ := w
        exact ⟨T', a2.tr t1, r1.trans t2, t3⟩
      | ok b' =>
        rw [hr] at w
        rw [eb_ok]
        obtain ⟨T', k', js', cs', t1, t2, t3, t4, t5, t6, t7, -⟩ := w
        have j2 : JsW 2 (js' ++ [22]) := by
          rcases t3 with rfl | ⟨-, rfl⟩ | ⟨x, -⟩
          · exact Or.inr (Or.inr ⟨Nat.le_refl _, Or.inl rfl⟩)
          · exact Or.inr (Or.inr ⟨Nat.le_refl _, Or.inr rfl⟩)
          · omega
        have := ih (a.1 ++ b'.1 ++ [(22, 0, 0)], b'.2) T' k' (js' ++ [22]) (a.1 ++ cs') j2 (by rw [← t4]; simp) (by rw [show cds ++ (a.1 ++ cs') = cds ++ a.1 ++ cs' by simp, show js' ++ [22] ++ b = js' ++ 22 :: b by simp]; exact t5) (t1.e2.trans (a2.e2.trans e2)) (t1.e6.trans (a2.e6.trans e6)) (by show 21 ≤ (n : Int) + b'.2.1; omega) (by show ones ≤ b'.2.1; omega) (t7 (Nat.le_refl _))
        exact this.back (a2.tr t1) (r1.trans t2)
    · rw [if_neg w1]
      exact ⟨T, k, js, cs, SnF.rf, rfl, j1, c1, s, ho, fun _ => hA, fun _ => Bool.eq_false_iff.mpr w1⟩
theorem or_W {sa : Int → Int → Except Er SR} {D : Int} (hsa : SaW g z l d m h S nm 0 D (fun _ => True) sa) : SaW g z l d m h S nm 2 D (fun v => v = 23) (orP g z l sa) := by
  intro T cds ones b q s e2 e6 hD hb
  have ha := an_W hsa
  have w := ha T cds ones b q s e2 e6 hD (fun v t e => Or.inr (hb v t e))
  unfold orP
  cases hr : anP g z l sa ones q with
  | error e => rw [hr] at w; exact w
  | ok a =>
    rw [hr] at w
    rw [eb_ok]
    obtain ⟨T', k, js, cs, t1, t2, t3, t4, t5, t6, t7, -⟩ := w
    have j2 : JsW 2 js := by
      rcases t3 with x | ⟨x, y⟩ | ⟨x, -⟩
      · exact Or.inl x
      · exact Or.inr (Or.inl ⟨by omega, y⟩)
      · omega
    have r := s.2.2.2.2.2.2.1
    exact (or_loop ha hb hD 21 a T' k js cs j2 t4 t5 (t1.e2.trans e2) (t1.e6.trans e6) (by omega) t6 (t7 (Nat.le_refl _))).back t1 t2
theorem JsW.in {lvl : Nat} {js : List Int} (j : JsW lvl js) : ∀ v ∈ js, v = 21 ∨ v = 22 := fun v hv => by
  rcases j with rfl | ⟨-, rfl⟩ | ⟨-, rfl | rfl⟩
  · cases hv
  · simp at hv; omega
  · simp at hv; omega
  · simp at hv; omega
/-- the end of a sentence within a bracket, or too early: a fault -/
theorem sn_bad {js : List Int} (s : SnS g z l T cds ones (List.replicate k 20 ++ (js ++ b)) true q) (hj : ∀ v ∈ js, v = 21 ∨ v = 22) (hb : ∀ v s, b = v :: s → v = 23) (h1 : isW g z l q wAND = false) (h2 : isW g z l q wOR = false) (hx : (b ≠ [] ∧ isS g z l q 41 = false) ∨ (b = [] ∧ kd g z l q ≠ 0)) : ∃ T', SnF T T' ∧ snR d m T h = some (.inl (some (.int (zI (-1 - (erx g z l q 1).2)))), tw m T' h) ∧ Fl T' (erx g z l q 1) := by
  by_cases k0 : kd g z l q = 0
  · obtain ⟨T1, T2, a1, a3, b1, b2, b3⟩ := tm_flush (d := d + 3) (m := m) (h := h) s hj hb
    have bd := tm_bad (d := d + 4) (m := m) (h := h) (T := T2) (k := 1)
    have fl := rd_fl b3.1 (k := 1) fun _ => rfl
    have f17 := fl.2
    have w := s.2.2.2.2.2.1
    have b1' : bZ true = 1 := rfl
    rw [b1'] at w
    have k12 := s.1.k12
    have bn : b ≠ [] := by
      rcases hx with x | x
      · exact x.1
      · exact absurd k0 x.2
    have e59 : 0 < T2 0 59 ∧ T2 0 59 ≤ 45 := by
      have h9 := b3.2.2.2.1.1
      have hn := b3.2.2.2.2.2.2.2
      have r := b3.2.2.2.2.2.2.1
      rw [b1'] at hn
      cases b with
      | nil => exact absurd rfl bn
      | cons v t => simp only [List.length_cons] at h9 hn; omega
    refine ⟨bdT T2 1, b2.tr (SnF.pf bd_pf), ?_, fl⟩
    unfold snR
    rw [E7101_48]
    have nle : ¬ T2 0 59 ≤ 0 := by omega
    simp (disch := omega) only [jc_ref, rI_int, rR_ref, rR_null, rJ_long, ckR_ref, ckR_null, ckr_ref, ckr_null, ckW_int, ckW_ref, ckW_null, cI_ok, cR_ok, cR_null, cV_ok, cJ_ok, qH_eq, qD_in, aG_ref, aS_ref, aL_ref, pF_ref, cK_ref, cK_null, zI_lit, zJ_lit, zI_add, zI_sub, zI_mul, zI_neg, zI_eq, zI_lt, zI_le, Int.reduceLT, Int.reduceLE, Int.reduceAdd, Int.reduceSub, Int.reduceMul, Int.reduceNeg, Int.reduceEq, Int.reduceNe, reduceIte, tw_0, tw_1, tw_2, tw_3, tw_4, tw_5, tw_6, tw_7, tw_8, tw_9, tw_10, tw_11, tw_12, tw_13, tw_14, tw_15, tw_16, tw_17, tw_18, tw_19, tw_20, tw_21, tw_22, tw_23, tw_24, tw_25, tw_26, tw_27, tw_28, tw_29, tw_30, tw_31, ob_0, ob_1, ob_2, ob_3, ob_4, ob_5, ob_6, ob_7, ob_8, ob_9, ob_10, ob_11, ob_12, ob_13, ob_14, ob_15, ob_16, ob_17, ob_18, ob_19, ob_20, ob_21, ob_22, ob_23, ob_24, ob_25, ob_26, ob_27, ob_28, ob_29, ob_30, ob_31, ob_32, ob_33, ob_34, ob_35, ob_36, ob_37, ob_38, ob_39, ob_40, ob_41, ob_42, ob_43, ob_44, ob_45, ob_46, ob_47, ob_48, ob_49, ob_50, ob_51, ob_52, ob_53, ob_54, ob_55, ob_56, ob_57, ob_58, ob_59, ob_60, ob_61, ob_62, ob_63, ob_64, ob_65, jf7, aGi, aGb, aGz, aGj, leT, leF, ltT, ltF, eqT, eqF, w, k12, k0, a1, b1, nle, bd, f17]
  · obtain ⟨T', c1, c2⟩ := tm_behB (d := d + 2) (m := m) (h := h) s hj hb h1 h2
    rw [if_neg (by
      rintro ⟨x, y⟩
      rcases hx with u | u
      · rw [u.2] at x; cases x
      · exact y u.1)] at c2
    have r1 := sn_be (d := d) (h := h) s k0 c2.1
    rw [if_neg (by decide)] at r1
    refine ⟨T', c1, ?_, c2.2⟩
    rw [r1, c2.2.2]
theorem lfP_cd {lf : Int} {c : Cd × Int} {q1 : Int} (h : lfP g z l S nm lf q1 = .ok c) : True := trivial
/-- operands, by how deep they may be -/
theorem sa_W (W : ScW S) : ∀ (n : Nat), n ≤ 8 → SaW g z l d m h S nm 0 (8 - n) (fun _ => True) (saP g z l S nm n) := by
  intro n
  induction n with
  | zero =>
    intro _ T cds ones b q s e2 e6 hD _
    obtain ⟨T1, f1, t1⟩ := sn_op (d := d) (m := m) (h := h) s (by rw [e2]; exact W)
    rw [e2, e6, hD] at t1
    unfold opP at t1
    unfold saP
    by_cases c1 : isW g z l q wNOT = false ∧ isS g z l q 40 = false ∧ leafZ g z l S nm q < 0
    · rw [if_pos c1] at t1 ⊢
      exact ⟨T1, f1, t1⟩
    · rw [if_neg c1] at t1 ⊢
      by_cases c2 : leafZ g z l S nm q = 100
      · rw [if_pos c2] at t1 ⊢
        exact ⟨T1, f1, t1⟩
      · rw [if_neg c2] at t1 ⊢
        rw [if_pos (Or.inr (by omega))] at t1
        exact ⟨T1, f1, t1⟩
  | succ n ih =>
    intro n8 T cds ones b q s e2 e6 hD _
    have ih := ih (by omega)
    obtain ⟨T1, f1, t1⟩ := sn_op (d := d) (m := m) (h := h) s (by rw [e2]; exact W)
    rw [e2, e6, hD] at t1
    unfold opP at t1
    unfold saP
    by_cases c1 : isW g z l q wNOT = false ∧ isS g z l q 40 = false ∧ leafZ g z l S nm q < 0
    · rw [if_pos c1] at t1 ⊢
      exact ⟨T1, f1, t1⟩
    · rw [if_neg c1] at t1 ⊢
      by_cases c2 : leafZ g z l S nm q = 100
      · rw [if_pos c2] at t1 ⊢
        exact ⟨T1, f1, t1⟩
      · rw [if_neg c2] at t1 ⊢
        by_cases c3 : ones = 20
        · rw [if_pos c3]
          rw [if_pos (Or.inl c3)] at t1
          exact ⟨T1, f1, t1⟩
        · rw [if_neg c3]
          rw [if_neg (show ¬ (ones = 20 ∨ 8 ≤ (8 - ((n + 1 : Nat) : Int))) by omega)] at t1
          by_cases c4 : isS g z l q 40 = true
          · have nW : ¬ isW g z l q wNOT = true := fun x => by
              have := isW_k x
              unfold isS at c4
              simp only [decide_eq_true_eq] at c4
              omega
            rw [if_pos c4]
            rw [if_neg nW, if_pos c4] at t1
            obtain ⟨r1, s1⟩ := t1
            simp only [List.append_nil] at s1
            have hd : dpC (23 :: b) = 8 - (n : Int) := by show (if _ then _ else _) + _ = _; rw [if_pos (Or.inr rfl), hD]; omega
            have w := or_W ih T1 cds (ones + 1) (23 :: b) (nxt g z l q) s1 (f1.e2.trans e2) (f1.e6.trans e6) hd (fun v t e => by rw [List.cons.injEq] at e; exact e.1.symm)
            cases hr : orP g z l (saP g z l S nm n) (ones + 1) (nxt g z l q) with
            | error e =>
              rw [hr] at w
              rw [eb_er]
              obtain ⟨T', u1, u2, u3⟩ := w
              exact ⟨T', f1.tr u1, r1.trans u2, u3⟩
            | ok a =>
              rw [hr] at w
              rw [eb_ok]
              obtain ⟨T2, k, js, cs, u1, u2, u3, u4, u5, u6, u7, u8⟩ := w
              have hA := u7 (by omega)
              have hO := u8 (Nat.le_refl _)
              by_cases c5 : isS g z l a.2.2 41 = true
              · rw [if_pos c5]
                obtain ⟨T3, v1, v2⟩ := tm_behB (d := d + 2) (m := m) (h := h) u5 u3.in (fun v t e => by rw [List.cons.injEq] at e; exact e.1.symm) hA hO
                rw [if_pos ⟨c5, by simp⟩] at v2
                have hk : kd g z l a.2.2 ≠ 0 := by
                  unfold isS at c5
                  simp only [decide_eq_true_eq] at c5
                  omega
                have r2 := sn_be (d := d) (h := h) u5 hk v2.1
                rw [if_pos rfl] at r2
                refine ⟨T3, 0, [], a.1, (f1.tr u1).tr v1, (r1.trans u2).trans r2, Or.inl rfl, by simp, ?_, by show ones + 1 ≤ a.2.1; omega, fun x => by omega, fun x => by omega⟩
                have v3 := v2.2
                rw [show cds ++ cs ++ List.replicate k (cdO 20) ++ js.map cdO = cds ++ a.1 by rw [← u4]; simp] at v3
                exact v3
              · rw [if_neg c5]
                obtain ⟨T3, v1, v2, v3⟩ := sn_bad (d := d) (m := m) (h := h) u5 u3.in (fun v t e => by rw [List.cons.injEq] at e; exact e.1.symm) hA hO (Or.inl ⟨by simp, Bool.eq_false_iff.mpr c5⟩)
                exact ⟨T3, (f1.tr u1).tr v1, (r1.trans u2).trans v2, v3⟩
          · rw [if_neg c4]
            by_cases c6 : isW g z l q wNOT = true
            · rw [if_pos c6]
              rw [if_pos c6] at t1
              obtain ⟨r1, s1⟩ := t1
              simp only [List.append_nil] at s1
              have hd : dpC (20 :: b) = 8 - (n : Int) := by show (if _ then _ else _) + _ = _; rw [if_pos (Or.inl rfl), hD]; omega
              have w := ih T1 cds (ones + 1) (20 :: b) (nxt g z l q) s1 (f1.e2.trans e2) (f1.e6.trans e6) hd (fun _ _ _ => trivial)
              cases hr : saP g z l S nm n (ones + 1) (nxt g z l q) with
              | error e =>
                rw [hr] at w
                rw [eb_er]
                obtain ⟨T', u1, u2, u3⟩ := w
                exact ⟨T', f1.tr u1, r1.trans u2, u3⟩
              | ok a =>
                rw [hr] at w
                rw [eb_ok]
                obtain ⟨T2, k, js, cs, u1, u2, u3, u4, u5, u6, -⟩ := w
                have j0 : js = [] := by
                  rcases u3 with x | ⟨x, -⟩ | ⟨x, -⟩
                  · exact x
                  · omega
                  · omega
                subst j0
                simp only [List.map_nil, List.append_nil, List.nil_append] at u4 u5
                refine ⟨T2, k + 1, [], cs, f1.tr u1, r1.trans u2, Or.inl rfl, ?_, ?_, by show ones + 1 ≤ a.2.1; omega, fun x => by omega, fun x => by omega⟩
                · show cs ++ List.replicate (k + 1) (cdO 20) ++ [] = a.1 ++ [(20, 0, 0)]
                  rw [← u4, List.replicate_succ', List.append_nil, List.append_assoc]
                · show SnS g z l T2 (cds ++ cs) a.2.1 (List.replicate (k + 1) 20 ++ ([] ++ b)) true a.2.2
                  rw [List.nil_append, List.replicate_succ', List.append_assoc]
                  exact u5
            · rw [if_neg c6]
              rw [if_neg c6, if_neg c4] at t1
              cases hr : lfP g z l S nm (leafZ g z l S nm q) (nxt g z l q) with
              | error e =>
                rw [hr] at t1
                exact ⟨T1, f1, t1⟩
              | ok c =>
                rw [hr] at t1
                obtain ⟨r1, s1⟩ := t1
                exact ⟨T1, 0, [], [c.1], f1, r1, Or.inl rfl, by simp, s1, by show ones + 1 ≤ ones + 1; omega, fun x => by omega, fun x => by omega⟩
end
