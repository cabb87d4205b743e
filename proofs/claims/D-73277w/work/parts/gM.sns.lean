/-! the twin's sentence: the whole -/
section
variable {g : Int → Int} {z l : Int} {d m : Nat} {T : Nat → Int → Int} {h : AH} {q ones : Int} {cds : List Cd} {st b js : List Int} {wh : Bool} {S nm : Int → Int} {k : Nat}
theorem sn_146 {i1 : Int32} : ∀ (j : Nat) (i : Int) (T : Nat → Int → Int), 0 ≤ i → i + j = 3 * T 0 57 → T 0 57 ≤ 45 →
    G d 7101 146 [.ref m, .int i1, .int (zI i)] [] (tw m T h) = some (.inl (some (.int (zI (T 0 58)))), tw m (tg T 2 (bl (1240 + i) (1240 + 3 * T 0 57) (fun x => T 4 (x - 1240)) (T 2))) h) := by
  intro j
  induction j with
  | zero =>
    intro i T i0 hi h45
    rw [bl_end (by omega), tg_self]
    conv => lhs; rw [E7101_146]
    simp (disch := omega) only [jc_ref, rI_int, rR_ref, rR_null, rJ_long, ckR_ref, ckR_null, ckr_ref, ckr_null, ckW_int, ckW_ref, ckW_null, cI_ok, cR_ok, cR_null, cV_ok, cJ_ok, qH_eq, qD_in, aG_ref, aS_ref, aL_ref, pF_ref, cK_ref, cK_null, zI_lit, zJ_lit, zI_add, zI_sub, zI_mul, zI_neg, zI_eq, zI_lt, zI_le, Int.reduceLT, Int.reduceLE, Int.reduceAdd, Int.reduceSub, Int.reduceMul, Int.reduceNeg, Int.reduceEq, Int.reduceNe, reduceIte, tw_0, tw_1, tw_2, tw_3, tw_4, tw_5, tw_6, tw_7, tw_8, tw_9, tw_10, tw_11, tw_12, tw_13, tw_14, tw_15, tw_16, tw_17, tw_18, tw_19, tw_20, tw_21, tw_22, tw_23, tw_24, tw_25, tw_26, tw_27, tw_28, tw_29, tw_30, tw_31, ob_0, ob_1, ob_2, ob_3, ob_4, ob_5, ob_6, ob_7, ob_8, ob_9, ob_10, ob_11, ob_12, ob_13, ob_14, ob_15, ob_16, ob_17, ob_18, ob_19, ob_20, ob_21, ob_22, ob_23, ob_24, ob_25, ob_26, ob_27, ob_28, ob_29, ob_30, ob_31, ob_32, ob_33, ob_34, ob_35, ob_36, ob_37, ob_38, ob_39, ob_40, ob_41, ob_42, ob_43, ob_44, ob_45, ob_46, ob_47, ob_48, ob_49, ob_50, ob_51, ob_52, ob_53, ob_54, ob_55, ob_56, ob_57, ob_58, ob_59, ob_60, ob_61, ob_62, ob_63, ob_64, ob_65, jf7, aGi, aGb, aGz, aGj, leT, leF, ltT, ltF, eqT, eqF]
  | succ j ih =>
    intro i T i0 hi h45
    have ih' := ih (i + 1) (tg T 2 (fset (T 2) (1240 + i) (T 4 i))) (by omega) (by rw [tg_ne (by decide)]; omega) (by rw [tg_ne (by decide)]; exact h45)
    have bs := bl_step (f := fun x => T 4 (x - 1240)) (g := T 2) (i := 1240 + i) (hi := 1240 + 3 * T 0 57) (by omega)
    simp only [show 1240 + i - 1240 = i by omega] at bs
    rw [tg_tg, tg_eq, tg_ne (show (0 : Nat) ≠ 2 by decide), tg_ne (show (4 : Nat) ≠ 2 by decide), show 1240 + (i + 1) = 1240 + i + 1 by omega, bs] at ih'
    rw [← ih']
    conv => lhs; rw [E7101_146]
    simp (disch := omega) only [jc_ref, rI_int, rR_ref, rR_null, rJ_long, ckR_ref, ckR_null, ckr_ref, ckr_null, ckW_int, ckW_ref, ckW_null, cI_ok, cR_ok, cR_null, cV_ok, cJ_ok, qH_eq, qD_in, aG_ref, aS_ref, aL_ref, pF_ref, cK_ref, cK_null, zI_lit, zJ_lit, zI_add, zI_sub, zI_mul, zI_neg, zI_eq, zI_lt, zI_le, Int.reduceLT, Int.reduceLE, Int.reduceAdd, Int.reduceSub, Int.reduceMul, Int.reduceNeg, Int.reduceEq, Int.reduceNe, reduceIte, tw_0, tw_1, tw_2, tw_3, tw_4, tw_5, tw_6, tw_7, tw_8, tw_9, tw_10, tw_11, tw_12, tw_13, tw_14, tw_15, tw_16, tw_17, tw_18, tw_19, tw_20, tw_21, tw_22, tw_23, tw_24, tw_25, tw_26, tw_27, tw_28, tw_29, tw_30, tw_31, ob_0, ob_1, ob_2, ob_3, ob_4, ob_5, ob_6, ob_7, ob_8, ob_9, ob_10, ob_11, ob_12, ob_13, ob_14, ob_15, ob_16, ob_17, ob_18, ob_19, ob_20, ob_21, ob_22, ob_23, ob_24, ob_25, ob_26, ob_27, ob_28, ob_29, ob_30, ob_31, ob_32, ob_33, ob_34, ob_35, ob_36, ob_37, ob_38, ob_39, ob_40, ob_41, ob_42, ob_43, ob_44, ob_45, ob_46, ob_47, ob_48, ob_49, ob_50, ob_51, ob_52, ob_53, ob_54, ob_55, ob_56, ob_57, ob_58, ob_59, ob_60, ob_61, ob_62, ob_63, ob_64, ob_65, jf7, aGi, aGb, aGz, aGj, leT, leF, ltT, ltF, eqT, eqF, tws_0, tws_1, tws_2, tws_3, tws_4, tws_5, tws_6, tws_7, tws_8, tws_9, tws_10, tws_11, tws_12, tws_13, tws_14, tws_15, tws_16, tws_17, tws_18, tws_19, tws_20, tws_21, tws_22, tws_23, tws_24, tws_25, tws_26, tws_27, tws_28, tws_29, tws_30, tws_31, obs_0, obs_2, obs_3, obs_4, obs_5, obs_12, obs_13, obs_14, obs_15, obs_16, obs_17, obs_18, obs_19, obs_20, obs_21, obs_22, obs_26, obs_31, obs_32, obs_33, obs_34, obs_35, obs_41, obs_42, obs_44, obs_48, obs_50, obs_51, obs_52, obs_55, obs_57, obs_58, obs_59, obs_60, obs_61, pF7i, pF7z, pF7j, aSi, aSj, aSb1, aSb24, aSb28, aSb31, ts, tg_eq, tg_ne, tg_tg, fset_eq, fset_ne]
/-- ahead of reading a sentence -/
def sn0 (T : Nat → Int → Int) : Nat → Int → Int := tg T 0 (fset (fset (fset (fset (fset (T 0) 57 0) 58 0) 59 0) 60 1) 61 0)
theorem sn0_tk : tk0 (sn0 T) 200 = tg T 0 (fset (fset (fset (fset (fset (fset (fset (fset (fset (fset (fset (T 0) 0 0) 3 (T 0 2)) 2 0) 4 0) 5 200) 16 0) 57 0) 58 0) 59 0) 60 1) 61 0) := by
  have e2 : sn0 T 0 2 = T 0 2 := by unfold sn0; simp (disch := omega) only [tg_eq, fset_ne]
  unfold tk0
  rw [e2]
  unfold sn0
  rw [tg_tg, tg_eq]
  congr 1
  funext i
  by_cases a1 : i = 57
  · subst a1; simp (disch := omega) only [fset_ne, fset_eq]
  by_cases a2 : i = 58
  · subst a2; simp (disch := omega) only [fset_ne, fset_eq]
  by_cases a3 : i = 59
  · subst a3; simp (disch := omega) only [fset_ne, fset_eq]
  by_cases a4 : i = 60
  · subst a4; simp (disch := omega) only [fset_ne, fset_eq]
  by_cases a5 : i = 61
  · subst a5; simp (disch := omega) only [fset_ne, fset_eq]
  simp only [fset_at, if_neg a1, if_neg a2, if_neg a3, if_neg a4, if_neg a5]
theorem sn0_k {k : Nat} (h : k ≠ 0) : sn0 T k = T k := by unfold sn0; rw [tg_ne h]
theorem sn0_0 {i : Int} (h : i < 57 ∨ 61 < i) : sn0 T 0 i = T 0 i := by unfold sn0; simp (disch := omega) only [tg_eq, fset_ne]
/-- what a sentence leaves as it is -/
def SeF (T T' : Nat → Int → Int) : Prop := (∀ k, k ≠ 0 → k ≠ 2 → k ≠ 4 → k ≠ 27 → T' k = T k) ∧ T' 0 0 = 0 ∧ T' 0 2 = 0 ∧ ∀ i : Int, 23 ≤ i → (i < 57 ∨ 61 < i) → T' 0 i = T 0 i
theorem tm_sentence (hC : TwC T) (W : ScW (T 2)) : ∃ T', SeF T T' ∧ match senP (T 1) (T 0 2) 200 (T 2) (T 6) with
      | .error e => M (d + 6) 7101 [.ref m] (tw m T h) = some (.inl (some (.int (zI (-1 - e.2)))), tw m T' h) ∧ Fl T' e ∧ T' 2 = T 2
      | .ok a => M (d + 6) 7101 [.ref m] (tw m T h) = some (.inl (some (.int (zI a.2))), tw m T' h) ∧ T' 0 16 = 0 ∧ T' 2 1239 = a.1.length ∧ CdsW (fun i => T' 2 (1240 + i)) a.1 ∧ (∀ i, i < 1239 → T' 2 i = T 2 i) ∧ a.1.length ≤ 45 := by
  have C2 : TwC (sn0 T) := ⟨by rw [sn0_k (by decide)]; exact hC.1, fun k hk => by rw [sn0_k (by decide)]; exact hC.2.1 k hk, fun i => by rw [sn0_k (by decide)]; exact hC.2.2.1 i, by rw [sn0_0 (by omega)]; exact hC.2.2.2⟩
  obtain ⟨T1, t1, t2, R1⟩ := rd_tk0 (d := d + 3) (m := m) (h := h) (T := sn0 T) (lim := 200) C2 (by omega) (by omega)
  rw [sn0_k (by decide), sn0_0 (by omega)] at R1
  have z0 : ∀ i, (i < 4 ∨ i = 5 ∨ i = 20 ∨ 23 ≤ i) → T1 0 i = tk0 (sn0 T) 200 0 i := fun i hi => t2.2 i (by omega)
  have f57 : T1 0 57 = 0 := by rw [z0 57 (by omega), sn0_tk, tg_eq]; simp (disch := omega) only [fset_ne, fset_eq]
  have f58 : T1 0 58 = 0 := by rw [z0 58 (by omega), sn0_tk, tg_eq]; simp (disch := omega) only [fset_ne, fset_eq]
  have f59 : T1 0 59 = 0 := by rw [z0 59 (by omega), sn0_tk, tg_eq]; simp (disch := omega) only [fset_ne, fset_eq]
  have f60 : T1 0 60 = 1 := by rw [z0 60 (by omega), sn0_tk, tg_eq]; simp (disch := omega) only [fset_ne, fset_eq]
  have f61 : T1 0 61 = 0 := by rw [z0 61 (by omega), sn0_tk, tg_eq]; simp (disch := omega) only [fset_ne, fset_eq]
  have f0 : T1 0 0 = 0 := by rw [z0 0 (by omega), sn0_tk, tg_eq]; simp (disch := omega) only [fset_ne, fset_eq]
  have f2 : T1 0 2 = 0 := by rw [z0 2 (by omega), sn0_tk, tg_eq]; simp (disch := omega) only [fset_ne, fset_eq]
  have f23 : ∀ i : Int, 23 ≤ i → (i < 57 ∨ 61 < i) → T1 0 i = T 0 i := fun i h1 h2 => by rw [z0 i (by omega), sn0_tk, tg_eq]; simp (disch := omega) only [fset_ne]
  have k1 : ∀ k, k ≠ 0 → T1 k = T k := fun k k0 => by rw [t2.1 k k0, tk0_k k0, sn0_k k0]
  have S1 : SnS (T 1) (T 0 2) 200 T1 [] 0 [] false 0 := ⟨R1, ⟨f57, fun i c hc => by simp at hc⟩, f58, ⟨f59, trivial, fun v hv => by cases hv⟩, f60, f61, by omega, by show (0 : Int) + 0 + 0 ≤ _; omega⟩
  have SE : ∀ X, SnF T1 X → SeF T X := fun X f => ⟨fun k k0 k2 k4 k7 => (f.1 k k0 k4 k7).trans (k1 k k0), (f.2 0 (by omega)).trans f0, (f.2 2 (by omega)).trans f2, fun i h1 h2 => (f.2 i (by omega)).trans (f23 i h1 h2)⟩
  have tk := tm_taken (d := d + 4) (m := m) (h := h) (T := tg T 0 (fset (T 0) 0 0)) (lim := 200)
  simp (disch := omega) only [ts, tg_eq, tg_tg, fset_ne] at tk
  rw [sn0_tk] at t1
  have st : M (d + 6) 7101 [.ref m] (tw m T h) = snR d m T1 h := by
    rw [X7101 _ (tw_recv rfl), E7101_0]
    simp (disch := omega) only [jc_ref, rI_int, rR_ref, rR_null, rJ_long, ckR_ref, ckR_null, ckr_ref, ckr_null, ckW_int, ckW_ref, ckW_null, cI_ok, cR_ok, cR_null, cV_ok, cJ_ok, qH_eq, qD_in, aG_ref, aS_ref, aL_ref, pF_ref, cK_ref, cK_null, zI_lit, zJ_lit, zI_add, zI_sub, zI_mul, zI_neg, zI_eq, zI_lt, zI_le, Int.reduceLT, Int.reduceLE, Int.reduceAdd, Int.reduceSub, Int.reduceMul, Int.reduceNeg, Int.reduceEq, Int.reduceNe, reduceIte, tw_0, tw_1, tw_2, tw_3, tw_4, tw_5, tw_6, tw_7, tw_8, tw_9, tw_10, tw_11, tw_12, tw_13, tw_14, tw_15, tw_16, tw_17, tw_18, tw_19, tw_20, tw_21, tw_22, tw_23, tw_24, tw_25, tw_26, tw_27, tw_28, tw_29, tw_30, tw_31, ob_0, ob_1, ob_2, ob_3, ob_4, ob_5, ob_6, ob_7, ob_8, ob_9, ob_10, ob_11, ob_12, ob_13, ob_14, ob_15, ob_16, ob_17, ob_18, ob_19, ob_20, ob_21, ob_22, ob_23, ob_24, ob_25, ob_26, ob_27, ob_28, ob_29, ob_30, ob_31, ob_32, ob_33, ob_34, ob_35, ob_36, ob_37, ob_38, ob_39, ob_40, ob_41, ob_42, ob_43, ob_44, ob_45, ob_46, ob_47, ob_48, ob_49, ob_50, ob_51, ob_52, ob_53, ob_54, ob_55, ob_56, ob_57, ob_58, ob_59, ob_60, ob_61, ob_62, ob_63, ob_64, ob_65, jf7, aGi, aGb, aGz, aGj, leT, leF, ltT, ltF, eqT, eqF, tws_0, tws_1, tws_2, tws_3, tws_4, tws_5, tws_6, tws_7, tws_8, tws_9, tws_10, tws_11, tws_12, tws_13, tws_14, tws_15, tws_16, tws_17, tws_18, tws_19, tws_20, tws_21, tws_22, tws_23, tws_24, tws_25, tws_26, tws_27, tws_28, tws_29, tws_30, tws_31, obs_0, obs_2, obs_3, obs_4, obs_5, obs_12, obs_13, obs_14, obs_15, obs_16, obs_17, obs_18, obs_19, obs_20, obs_21, obs_22, obs_26, obs_31, obs_32, obs_33, obs_34, obs_35, obs_41, obs_42, obs_44, obs_48, obs_50, obs_51, obs_52, obs_55, obs_57, obs_58, obs_59, obs_60, obs_61, pF7i, pF7z, pF7j, aSi, aSj, aSb1, aSb24, aSb28, aSb31, ts, tg_eq, tg_ne, tg_tg, fset_eq, fset_ne, tk, t1]
    rfl
  have w := or_W (sa_W (g := T 1) (z := T 0 2) (l := 200) (d := d) (m := m) (h := h) (nm := T 6) W 8 (Nat.le_refl _)) T1 [] 0 [] 0 S1 (k1 2 (by decide)) (k1 6 (by decide)) rfl (fun v t e => by cases e)
  unfold senP
  rw [st]
  cases hr : orP (T 1) (T 0 2) 200 (saP (T 1) (T 0 2) 200 (T 2) (T 6) 8) 0 0 with
  | error e =>
    rw [hr] at w
    obtain ⟨T', u1, u2, u3⟩ := w
    exact ⟨T', SE _ u1, u2, u3, (u1.1 2 (by decide) (by decide) (by decide)).trans (k1 2 (by decide))⟩
  | ok a =>
    rw [hr] at w
    rw [eb_ok]
    obtain ⟨T2, k, js, cs, u1, u2, u3, u4, u5, u6, u7, u8⟩ := w
    have hA := u7 (by omega)
    have hO := u8 (Nat.le_refl _)
    by_cases k0 : kd (T 1) (T 0 2) 200 a.2.2 = 0
    · rw [if_pos k0]
      obtain ⟨T3, T4, a1, a3, b1, b2, b3⟩ := tm_flush (d := d + 3) (m := m) (h := h) u5 u3.in (fun v t e => by cases e)
      rw [show [] ++ cs ++ List.replicate k (cdO 20) ++ js.map cdO = a.1 by rw [← u4]; simp] at b3
      obtain ⟨R, c, o, ⟨s1, s2, s3⟩, dp, w, r, n⟩ := id b3
      have w2 := u5.2.2.2.2.2.1
      have bt : bZ true = 1 := rfl
      rw [bt] at w2 n
      have k12 := u5.1.k12
      have e59 : T4 0 59 = 0 := s1
      have n45 : a.1.length ≤ 45 := by simp only [List.length_nil] at n; omega
      have L := sn_146 (d := d + 5) (m := m) (h := h) (i1 := zI 0) (3 * a.1.length) 0 (ts T4 2 1239 (a.1.length : Int)) (by omega) (by rw [ts_ne (by decide), c.1]; omega) (by rw [ts_ne (by decide), c.1]; omega)
      rw [Int.add_zero, ts_ne (show (0 : Nat) ≠ 2 by decide), ts_ne (show (4 : Nat) ≠ 2 by decide), ts_eq, c.1, o] at L
      have run : snR d m T2 h = some (.inl (some (.int (zI a.2.1))), tw m (tg (ts T4 2 1239 (a.1.length : Int)) 2 (bl 1240 (1240 + 3 * (a.1.length : Int)) (fun x => T4 4 (x - 1240)) (fset (T4 2) 1239 (a.1.length : Int)))) h) := by
        rw [← L]
        unfold snR
        conv => lhs; rw [E7101_48]
        have c57 := c.1
        generalize (a.1.length : Int) = x at c57 n45 n ⊢
        simp (disch := omega) only [jc_ref, rI_int, rR_ref, rR_null, rJ_long, ckR_ref, ckR_null, ckr_ref, ckr_null, ckW_int, ckW_ref, ckW_null, cI_ok, cR_ok, cR_null, cV_ok, cJ_ok, qH_eq, qD_in, aG_ref, aS_ref, aL_ref, pF_ref, cK_ref, cK_null, zI_lit, zJ_lit, zI_add, zI_sub, zI_mul, zI_neg, zI_eq, zI_lt, zI_le, Int.reduceLT, Int.reduceLE, Int.reduceAdd, Int.reduceSub, Int.reduceMul, Int.reduceNeg, Int.reduceEq, Int.reduceNe, reduceIte, tw_0, tw_1, tw_2, tw_3, tw_4, tw_5, tw_6, tw_7, tw_8, tw_9, tw_10, tw_11, tw_12, tw_13, tw_14, tw_15, tw_16, tw_17, tw_18, tw_19, tw_20, tw_21, tw_22, tw_23, tw_24, tw_25, tw_26, tw_27, tw_28, tw_29, tw_30, tw_31, ob_0, ob_1, ob_2, ob_3, ob_4, ob_5, ob_6, ob_7, ob_8, ob_9, ob_10, ob_11, ob_12, ob_13, ob_14, ob_15, ob_16, ob_17, ob_18, ob_19, ob_20, ob_21, ob_22, ob_23, ob_24, ob_25, ob_26, ob_27, ob_28, ob_29, ob_30, ob_31, ob_32, ob_33, ob_34, ob_35, ob_36, ob_37, ob_38, ob_39, ob_40, ob_41, ob_42, ob_43, ob_44, ob_45, ob_46, ob_47, ob_48, ob_49, ob_50, ob_51, ob_52, ob_53, ob_54, ob_55, ob_56, ob_57, ob_58, ob_59, ob_60, ob_61, ob_62, ob_63, ob_64, ob_65, jf7, aGi, aGb, aGz, aGj, leT, leF, ltT, ltF, eqT, eqF, tws_0, tws_1, tws_2, tws_3, tws_4, tws_5, tws_6, tws_7, tws_8, tws_9, tws_10, tws_11, tws_12, tws_13, tws_14, tws_15, tws_16, tws_17, tws_18, tws_19, tws_20, tws_21, tws_22, tws_23, tws_24, tws_25, tws_26, tws_27, tws_28, tws_29, tws_30, tws_31, obs_0, obs_2, obs_3, obs_4, obs_5, obs_12, obs_13, obs_14, obs_15, obs_16, obs_17, obs_18, obs_19, obs_20, obs_21, obs_22, obs_26, obs_31, obs_32, obs_33, obs_34, obs_35, obs_41, obs_42, obs_44, obs_48, obs_50, obs_51, obs_52, obs_55, obs_57, obs_58, obs_59, obs_60, obs_61, pF7i, pF7z, pF7j, aSi, aSj, aSb1, aSb24, aSb28, aSb31, ts, tg_eq, tg_ne, tg_tg, fset_eq, fset_ne, w2, k12, k0, a1, b1, e59]
        conv => lhs; rw [E7101_48]
        simp (disch := omega) only [jc_ref, rI_int, rR_ref, rR_null, rJ_long, ckR_ref, ckR_null, ckr_ref, ckr_null, ckW_int, ckW_ref, ckW_null, cI_ok, cR_ok, cR_null, cV_ok, cJ_ok, qH_eq, qD_in, aG_ref, aS_ref, aL_ref, pF_ref, cK_ref, cK_null, zI_lit, zJ_lit, zI_add, zI_sub, zI_mul, zI_neg, zI_eq, zI_lt, zI_le, Int.reduceLT, Int.reduceLE, Int.reduceAdd, Int.reduceSub, Int.reduceMul, Int.reduceNeg, Int.reduceEq, Int.reduceNe, reduceIte, tw_0, tw_1, tw_2, tw_3, tw_4, tw_5, tw_6, tw_7, tw_8, tw_9, tw_10, tw_11, tw_12, tw_13, tw_14, tw_15, tw_16, tw_17, tw_18, tw_19, tw_20, tw_21, tw_22, tw_23, tw_24, tw_25, tw_26, tw_27, tw_28, tw_29, tw_30, tw_31, ob_0, ob_1, ob_2, ob_3, ob_4, ob_5, ob_6, ob_7, ob_8, ob_9, ob_10, ob_11, ob_12, ob_13, ob_14, ob_15, ob_16, ob_17, ob_18, ob_19, ob_20, ob_21, ob_22, ob_23, ob_24, ob_25, ob_26, ob_27, ob_28, ob_29, ob_30, ob_31, ob_32, ob_33, ob_34, ob_35, ob_36, ob_37, ob_38, ob_39, ob_40, ob_41, ob_42, ob_43, ob_44, ob_45, ob_46, ob_47, ob_48, ob_49, ob_50, ob_51, ob_52, ob_53, ob_54, ob_55, ob_56, ob_57, ob_58, ob_59, ob_60, ob_61, ob_62, ob_63, ob_64, ob_65, jf7, aGi, aGb, aGz, aGj, leT, leF, ltT, ltF, eqT, eqF, tws_0, tws_1, tws_2, tws_3, tws_4, tws_5, tws_6, tws_7, tws_8, tws_9, tws_10, tws_11, tws_12, tws_13, tws_14, tws_15, tws_16, tws_17, tws_18, tws_19, tws_20, tws_21, tws_22, tws_23, tws_24, tws_25, tws_26, tws_27, tws_28, tws_29, tws_30, tws_31, obs_0, obs_2, obs_3, obs_4, obs_5, obs_12, obs_13, obs_14, obs_15, obs_16, obs_17, obs_18, obs_19, obs_20, obs_21, obs_22, obs_26, obs_31, obs_32, obs_33, obs_34, obs_35, obs_41, obs_42, obs_44, obs_48, obs_50, obs_51, obs_52, obs_55, obs_57, obs_58, obs_59, obs_60, obs_61, pF7i, pF7z, pF7j, aSi, aSj, aSb1, aSb24, aSb28, aSb31, ts, tg_eq, tg_ne, tg_tg, fset_eq, fset_ne, c57]
      have F4 := u1.tr b2
      have S4 := SE _ F4
      have e2 : T4 2 = T 2 := (F4.1 2 (by decide) (by decide) (by decide)).trans (k1 2 (by decide))
      refine ⟨_, ?_, u2.trans run, ?_, ?_, fun i x hx => ?_, fun i hi => ?_, n45⟩
      · refine ⟨fun k h0 h2 h4 h7 => ?_, ?_, ?_, fun i h1 h2 => ?_⟩
        · rw [tg_ne h2, ts_ne h2]; exact S4.1 k h0 h2 h4 h7
        · rw [tg_ne (by decide), ts_ne (by decide)]; exact S4.2.1
        · rw [tg_ne (by decide), ts_ne (by decide)]; exact S4.2.2.1
        · rw [tg_ne (by decide), ts_ne (by decide)]; exact S4.2.2.2 i h1 h2
      · rw [tg_ne (by decide), ts_ne (by decide)]; exact R.2.2.2.2.2
      · rw [tg_eq]
        unfold bl
        rw [if_neg (by omega), fset_eq]
      · obtain ⟨x1, x2, x3⟩ := c.2 i x hx
        have il : i < a.1.length := (List.getElem?_eq_some_iff.mp hx).1
        simp only [tg_eq]
        unfold bl
        rw [if_pos (by omega), if_pos (by omega), if_pos (by omega)]
        show T4 4 (1240 + 3 * (i : Int) - 1240) = _ ∧ T4 4 (1240 + (3 * (i : Int) + 1) - 1240) = _ ∧ T4 4 (1240 + (3 * (i : Int) + 2) - 1240) = _
        rw [show 1240 + 3 * (i : Int) - 1240 = 3 * (i : Int) by omega, show 1240 + (3 * (i : Int) + 1) - 1240 = 3 * (i : Int) + 1 by omega, show 1240 + (3 * (i : Int) + 2) - 1240 = 3 * (i : Int) + 2 by omega]
        exact ⟨x1, x2, x3⟩
      · rw [tg_eq]
        unfold bl
        rw [if_neg (by omega), fset_ne (by omega), e2]
    · rw [if_neg k0]
      obtain ⟨T3, v1, v2, v3⟩ := sn_bad (d := d) (m := m) (h := h) u5 u3.in (fun v t e => by cases e) hA hO (Or.inr ⟨rfl, k0⟩)
      exact ⟨T3, SE _ (u1.tr v1), u2.trans v2, v3, ((u1.tr v1).1 2 (by decide) (by decide) (by decide)).trans (k1 2 (by decide))⟩
end
