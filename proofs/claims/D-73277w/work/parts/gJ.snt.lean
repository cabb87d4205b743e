/-! the twin's sentences: codes, the stack of what waits -/
def StkW (X : Int → Int) : List Int → Prop
  | [] => True
  | v :: s => X s.length = v ∧ StkW X s
def CdsW (Y : Int → Int) (cds : List Cd) : Prop := ∀ (i : Nat) (c : Cd), cds[i]? = some c → Y (3 * (i : Int)) = c.1 ∧ Y (3 * (i : Int) + 1) = c.2.1 ∧ Y (3 * (i : Int) + 2) = c.2.2
/-- how deep: nots and brackets that wait -/
def dpC : List Int → Int
  | [] => 0
  | v :: s => (if v = 20 ∨ v = 23 then 1 else 0) + dpC s
abbrev cdO (v : Int) : Cd := (v, 0, 0)
def SnS (g : Int → Int) (z l : Int) (T : Nat → Int → Int) (cds : List Cd) (ones : Int) (st : List Int) (wh : Bool) (q : Int) : Prop :=
  Rd g z l T q ∧ (T 0 57 = cds.length ∧ CdsW (T 4) cds) ∧ T 0 58 = ones ∧ (T 0 59 = st.length ∧ StkW (T 27) st ∧ ∀ v ∈ st, 20 ≤ v ∧ v ≤ 23) ∧ T 0 60 = 1 + dpC st ∧ T 0 61 = bZ wh ∧ (0 ≤ ones ∧ ones ≤ 20) ∧ (cds.length : Int) + st.length + bZ wh ≤ 2 * ones
/-- what reading a sentence changes -/
def SnF (T T' : Nat → Int → Int) : Prop := (∀ k, k ≠ 0 → k ≠ 4 → k ≠ 27 → T' k = T k) ∧ ∀ i : Int, (i ≤ 3 ∨ i = 5 ∨ i = 20 ∨ (23 ≤ i ∧ (i < 57 ∨ 61 < i))) → T' 0 i = T 0 i
theorem SnF.rf {T : Nat → Int → Int} : SnF T T := ⟨fun _ _ _ _ => rfl, fun _ _ => rfl⟩
theorem SnF.tr {T X Y : Nat → Int → Int} (a : SnF T X) (b : SnF X Y) : SnF T Y := ⟨fun k k0 k4 k7 => (b.1 k k0 k4 k7).trans (a.1 k k0 k4 k7), fun i hi => (b.2 i hi).trans (a.2 i hi)⟩
theorem SnF.pf {T X : Nat → Int → Int} (a : PF T X) : SnF T X := ⟨fun k k0 _ _ => a.1 k k0, fun i hi => a.2 i (by omega)⟩
theorem SnF.f {T : Nat → Int → Int} {i v : Int} (h : 57 ≤ i ∧ i ≤ 61) : SnF T (ts T 0 i v) := ⟨fun k k0 _ _ => ts_ne k0, fun j hj => by rw [ts_eq, fset_ne (by omega)]⟩
theorem SnF.a {T : Nat → Int → Int} {k : Nat} {i v : Int} (h : k = 4 ∨ k = 27) : SnF T (ts T k i v) := ⟨fun j j0 j4 j7 => ts_ne (by omega), fun j hj => by rw [ts_ne (by omega)]⟩
theorem StkW.up {X : Int → Int} {i v : Int} : ∀ {s : List Int}, StkW X s → (s.length : Int) ≤ i → StkW (fset X i v) s
  | [], _, _ => trivial
  | a :: s, ⟨h1, h2⟩, hi => ⟨by rw [fset_ne (by simp only [List.length_cons] at hi; omega)]; exact h1, h2.up (by simp only [List.length_cons] at hi; omega)⟩
theorem CdsW.add {Y : Int → Int} {cds : List Cd} {a b c : Int} (h : CdsW Y cds) : CdsW (fset (fset (fset Y (3 * (cds.length : Int)) a) (3 * (cds.length : Int) + 1) b) (3 * (cds.length : Int) + 2) c) (cds ++ [(a, b, c)]) := fun i x hx => by
  by_cases hi : i < cds.length
  · rw [List.getElem?_append_left hi] at hx
    obtain ⟨h1, h2, h3⟩ := h i x hx
    simp (disch := omega) only [fset_ne]
    exact ⟨h1, h2, h3⟩
  · rw [List.getElem?_append_right (by omega)] at hx
    obtain ⟨e0, hx2⟩ : i - cds.length = 0 ∧ x = (a, b, c) := by
      cases hc : i - cds.length with
      | zero => rw [hc] at hx; simp at hx; exact ⟨rfl, hx.symm⟩
      | succ j => rw [hc] at hx; simp at hx
    have e : i = cds.length := by omega
    subst e; subst hx2
    simp (disch := omega) only [fset_ne, fset_eq, and_self]
section
variable {g : Int → Int} {z l : Int} {d m : Nat} {T : Nat → Int → Int} {h : AH} {q ones : Int} {cds : List Cd} {st b : List Int} {wh : Bool}
def cdT (T : Nat → Int → Int) (a b c : Int) : Nat → Int → Int := ts (ts (ts (ts T 4 (3 * T 0 57) a) 4 (3 * T 0 57 + 1) b) 4 (3 * T 0 57 + 2) c) 0 57 (T 0 57 + 1)
theorem tm_code {a b c : Int} (h0 : 0 ≤ T 0 57) (h1 : T 0 57 < 45) : M (d + 1) 7014 [.ref m, .int (zI a), .int (zI b), .int (zI c)] (tw m T h) = some (.inl none, tw m (cdT T a b c) h) := by
  rw [X7014 _ (tw_recv rfl), E7014_0]
  unfold cdT
  simp (disch := omega) only [jc_ref, rI_int, rR_ref, rR_null, rJ_long, ckR_ref, ckR_null, ckr_ref, ckr_null, ckW_int, ckW_ref, ckW_null, cI_ok, cR_ok, cR_null, cV_ok, cJ_ok, qH_eq, qD_in, aG_ref, aS_ref, aL_ref, pF_ref, cK_ref, cK_null, zI_lit, zJ_lit, zI_add, zI_sub, zI_mul, zI_neg, zI_eq, zI_lt, zI_le, Int.reduceLT, Int.reduceLE, Int.reduceAdd, Int.reduceSub, Int.reduceMul, Int.reduceNeg, Int.reduceEq, Int.reduceNe, reduceIte, tw_0, tw_1, tw_2, tw_3, tw_4, tw_5, tw_6, tw_7, tw_8, tw_9, tw_10, tw_11, tw_12, tw_13, tw_14, tw_15, tw_16, tw_17, tw_18, tw_19, tw_20, tw_21, tw_22, tw_23, tw_24, tw_25, tw_26, tw_27, tw_28, tw_29, tw_30, tw_31, ob_0, ob_1, ob_2, ob_3, ob_4, ob_5, ob_6, ob_7, ob_8, ob_9, ob_10, ob_11, ob_12, ob_13, ob_14, ob_15, ob_16, ob_17, ob_18, ob_19, ob_20, ob_21, ob_22, ob_23, ob_24, ob_25, ob_26, ob_27, ob_28, ob_29, ob_30, ob_31, ob_32, ob_33, ob_34, ob_35, ob_36, ob_37, ob_38, ob_39, ob_40, ob_41, ob_42, ob_43, ob_44, ob_45, ob_46, ob_47, ob_48, ob_49, ob_50, ob_51, ob_52, ob_53, ob_54, ob_55, ob_56, ob_57, ob_58, ob_59, ob_60, ob_61, ob_62, ob_63, ob_64, ob_65, jf7, aGi, aGb, aGz, aGj, leT, leF, ltT, ltF, eqT, eqF, tws_0, tws_1, tws_2, tws_3, tws_4, tws_5, tws_6, tws_7, tws_8, tws_9, tws_10, tws_11, tws_12, tws_13, tws_14, tws_15, tws_16, tws_17, tws_18, tws_19, tws_20, tws_21, tws_22, tws_23, tws_24, tws_25, tws_26, tws_27, tws_28, tws_29, tws_30, tws_31, obs_0, obs_2, obs_3, obs_4, obs_5, obs_12, obs_13, obs_14, obs_15, obs_16, obs_17, obs_18, obs_19, obs_20, obs_21, obs_22, obs_26, obs_31, obs_32, obs_33, obs_34, obs_35, obs_41, obs_42, obs_44, obs_48, obs_50, obs_51, obs_52, obs_55, obs_57, obs_58, obs_59, obs_60, obs_61, pF7i, pF7z, pF7j, aSi, aSj, aSb1, aSb24, aSb28, aSb31, ts, tg_eq, tg_ne, tg_tg, fset_eq, fset_ne]
theorem cdT_k {a b c : Int} {k : Nat} (h0 : k ≠ 0) (h4 : k ≠ 4) : cdT T a b c k = T k := by
  unfold cdT
  rw [ts_ne h0, ts_ne h4, ts_ne h4, ts_ne h4]
theorem cdT_0 {a b c : Int} : cdT T a b c 0 = fset (T 0) 57 (T 0 57 + 1) := by
  unfold cdT
  rw [ts_eq, ts_ne (by decide), ts_ne (by decide), ts_ne (by decide)]
theorem cdT_4 {a b c : Int} : cdT T a b c 4 = fset (fset (fset (T 4) (3 * T 0 57) a) (3 * T 0 57 + 1) b) (3 * T 0 57 + 2) c := by
  unfold cdT
  rw [ts_ne (by decide), ts_eq, ts_eq, ts_eq]
theorem cdT_F {a b c : Int} : SnF T (cdT T a b c) := ⟨fun k k0 k4 _ => cdT_k k0 k4, fun i hi => by rw [cdT_0, fset_ne (by omega)]⟩
theorem Rd.cd (R : Rd g z l T q) {a b c : Int} : Rd g z l (cdT T a b c) q := by
  unfold cdT
  exact (((R.tg (k := 4) (by decide) (by decide) (by decide) (by decide)).tg (k := 4) (by decide) (by decide) (by decide) (by decide)).tg (k := 4) (by decide) (by decide) (by decide) (by decide)).st (by omega)
/-- one code more -/
theorem SnS.cd {a b c : Int} (s : SnS g z l T cds ones st wh q) (hn : (cds.length : Int) + 1 + st.length + bZ wh ≤ 2 * ones) : SnS g z l (cdT T a b c) (cds ++ [(a, b, c)]) ones st wh q := by
  obtain ⟨R, ⟨c1, c2⟩, o, ⟨s1, s2, s3⟩, dp, w, r, -⟩ := s
  refine ⟨R.cd, ⟨?_, ?_⟩, ?_, ⟨?_, ?_, s3⟩, ?_, ?_, r, ?_⟩
  · rw [cdT_0, fset_eq, c1, List.length_append]; simp
  · rw [cdT_4, c1]; exact c2.add
  · rw [cdT_0, fset_ne (by decide)]; exact o
  · rw [cdT_0, fset_ne (by decide)]; exact s1
  · rw [cdT_k (by decide) (by decide)]; exact s2
  · rw [cdT_0, fset_ne (by decide)]; exact dp
  · rw [cdT_0, fset_ne (by decide)]; exact w
  · rw [List.length_append]; simp; omega
/-- the top goes -/
theorem SnS.pop {v x y : Int} (s : SnS g z l T cds ones (v :: st) wh q) (hx : x = st.length) (hy : y = 1 + dpC st) : SnS g z l (ts (ts T 0 59 x) 0 60 y) cds ones st wh q := by
  obtain ⟨R, c, o, ⟨s1, s2, s3⟩, dp, w, r, n⟩ := s
  refine ⟨(R.st (by omega)).st (by omega), ⟨?_, c.2⟩, ?_, ⟨?_, s2.2, fun v hv => s3 v (List.mem_cons_of_mem _ hv)⟩, ?_, ?_, r, ?_⟩
  · simp (disch := omega) only [ts, tg_eq, fset_ne]; exact c.1
  · simp (disch := omega) only [ts, tg_eq, fset_ne]; exact o
  · simp (disch := omega) only [ts, tg_eq, fset_ne, fset_eq]; exact hx
  · simp (disch := omega) only [ts, tg_eq, fset_ne, fset_eq]; exact hy
  · simp (disch := omega) only [ts, tg_eq, fset_ne]; exact w
  · simp only [List.length_cons] at n; omega
theorem SnS.pop1 {v x : Int} (s : SnS g z l T cds ones (v :: st) wh q) (hx : x = st.length) (hv : v = 21 ∨ v = 22) : SnS g z l (ts T 0 59 x) cds ones st wh q := by
  have k := s.pop hx (y := T 0 60) (by rw [s.2.2.2.2.1]; show 1 + ((if v = 20 ∨ v = 23 then 1 else 0) + dpC st) = _; rw [if_neg (by omega)]; omega)
  rw [show ts (ts T 0 59 x) 0 60 (T 0 60) = ts T 0 59 x from by rw [show T 0 60 = ts T 0 59 x 0 60 by rw [ts_eq, fset_ne (by decide)], ts_self]] at k
  exact k
/-- one more waits -/
theorem SnS.push {v x y o : Int} (s : SnS g z l T cds ones st wh q) (hv : 20 ≤ v ∧ v ≤ 23) (hx : x = st.length + 1) (hy : y = 1 + dpC (v :: st)) {q' : Int} (R : Rd g z l T q') (hw : wh = false) (ho : o = ones + 1 ∧ T 0 58 = o) (h20 : ones + 1 ≤ 20) : SnS g z l (ts (ts (ts T 27 st.length v) 0 59 x) 0 60 y) cds o (v :: st) false q' := by
  obtain ⟨-, c, -, ⟨s1, s2, s3⟩, dp, w, r, n⟩ := s
  subst hw
  have b0 : bZ false = 0 := rfl
  refine ⟨((R.tg (k := 27) (by decide) (by decide) (by decide) (by decide)).st (by omega)).st (by omega), ⟨?_, c.2⟩, ?_, ⟨?_, ⟨?_, ?_⟩, ?_⟩, ?_, ?_, by omega, ?_⟩
  · simp (disch := omega) only [ts, tg_eq, tg_ne, fset_ne]; exact c.1
  · simp (disch := omega) only [ts, tg_eq, tg_ne, fset_ne]; exact ho.2
  · simp (disch := omega) only [ts, tg_eq, tg_ne, fset_ne, fset_eq]; rw [hx]; simp
  · show fset (T 27) st.length v st.length = v
    rw [fset_eq]
  · exact s2.up (Int.le_refl _)
  · intro u hu
    rcases List.mem_cons.mp hu with rfl | hu
    · exact hv
    · exact s3 u hu
  · simp (disch := omega) only [ts, tg_eq, tg_ne, fset_ne, fset_eq]; exact hy
  · simp (disch := omega) only [ts, tg_eq, tg_ne, fset_ne]; exact w
  · simp only [List.length_cons]; omega
theorem nt_0 : ∀ (k : Nat) (T : Nat → Int → Int) (cds : List Cd), SnS g z l T cds ones (List.replicate k 20 ++ b) true q → (∀ v s, b = v :: s → v ≠ 20) →
    ∃ T', G (d + 1) 7072 0 [.ref m] [] (tw m T h) = some (.inl none, tw m T' h) ∧ SnF T T' ∧ SnS g z l T' (cds ++ List.replicate k (cdO 20)) ones b true q := by
  intro k
  induction k with
  | zero =>
    intro T cds s hb
    simp only [List.replicate_zero, List.nil_append] at s
    simp only [List.replicate_zero, List.append_nil]
    refine ⟨T, ?_, SnF.rf, s⟩
    obtain ⟨R, c, o, ⟨s1, s2, s3⟩, dp, w, r, n⟩ := s
    cases b with
    | nil =>
      have e0 : T 0 59 = 0 := by rw [s1]; rfl
      rw [E7072_0]
      simp (disch := omega) only [jc_ref, rI_int, rR_ref, rR_null, rJ_long, ckR_ref, ckR_null, ckr_ref, ckr_null, ckW_int, ckW_ref, ckW_null, cI_ok, cR_ok, cR_null, cV_ok, cJ_ok, qH_eq, qD_in, aG_ref, aS_ref, aL_ref, pF_ref, cK_ref, cK_null, zI_lit, zJ_lit, zI_add, zI_sub, zI_mul, zI_neg, zI_eq, zI_lt, zI_le, Int.reduceLT, Int.reduceLE, Int.reduceAdd, Int.reduceSub, Int.reduceMul, Int.reduceNeg, Int.reduceEq, Int.reduceNe, reduceIte, tw_0, tw_1, tw_2, tw_3, tw_4, tw_5, tw_6, tw_7, tw_8, tw_9, tw_10, tw_11, tw_12, tw_13, tw_14, tw_15, tw_16, tw_17, tw_18, tw_19, tw_20, tw_21, tw_22, tw_23, tw_24, tw_25, tw_26, tw_27, tw_28, tw_29, tw_30, tw_31, ob_0, ob_1, ob_2, ob_3, ob_4, ob_5, ob_6, ob_7, ob_8, ob_9, ob_10, ob_11, ob_12, ob_13, ob_14, ob_15, ob_16, ob_17, ob_18, ob_19, ob_20, ob_21, ob_22, ob_23, ob_24, ob_25, ob_26, ob_27, ob_28, ob_29, ob_30, ob_31, ob_32, ob_33, ob_34, ob_35, ob_36, ob_37, ob_38, ob_39, ob_40, ob_41, ob_42, ob_43, ob_44, ob_45, ob_46, ob_47, ob_48, ob_49, ob_50, ob_51, ob_52, ob_53, ob_54, ob_55, ob_56, ob_57, ob_58, ob_59, ob_60, ob_61, ob_62, ob_63, ob_64, ob_65, jf7, aGi, aGb, aGz, aGj, leT, leF, ltT, ltF, eqT, eqF, e0]
    | cons v t =>
      have hv := hb v t rfl
      have rv := s3 v List.mem_cons_self
      have sv := s2.1
      have e1 : T 0 59 = t.length + 1 := by rw [s1]; simp
      have bt : bZ true = 1 := rfl
      simp only [List.length_cons] at n
      rw [E7072_0]
      simp (disch := omega) only [jc_ref, rI_int, rR_ref, rR_null, rJ_long, ckR_ref, ckR_null, ckr_ref, ckr_null, ckW_int, ckW_ref, ckW_null, cI_ok, cR_ok, cR_null, cV_ok, cJ_ok, qH_eq, qD_in, aG_ref, aS_ref, aL_ref, pF_ref, cK_ref, cK_null, zI_lit, zJ_lit, zI_add, zI_sub, zI_mul, zI_neg, zI_eq, zI_lt, zI_le, Int.reduceLT, Int.reduceLE, Int.reduceAdd, Int.reduceSub, Int.reduceMul, Int.reduceNeg, Int.reduceEq, Int.reduceNe, reduceIte, tw_0, tw_1, tw_2, tw_3, tw_4, tw_5, tw_6, tw_7, tw_8, tw_9, tw_10, tw_11, tw_12, tw_13, tw_14, tw_15, tw_16, tw_17, tw_18, tw_19, tw_20, tw_21, tw_22, tw_23, tw_24, tw_25, tw_26, tw_27, tw_28, tw_29, tw_30, tw_31, ob_0, ob_1, ob_2, ob_3, ob_4, ob_5, ob_6, ob_7, ob_8, ob_9, ob_10, ob_11, ob_12, ob_13, ob_14, ob_15, ob_16, ob_17, ob_18, ob_19, ob_20, ob_21, ob_22, ob_23, ob_24, ob_25, ob_26, ob_27, ob_28, ob_29, ob_30, ob_31, ob_32, ob_33, ob_34, ob_35, ob_36, ob_37, ob_38, ob_39, ob_40, ob_41, ob_42, ob_43, ob_44, ob_45, ob_46, ob_47, ob_48, ob_49, ob_50, ob_51, ob_52, ob_53, ob_54, ob_55, ob_56, ob_57, ob_58, ob_59, ob_60, ob_61, ob_62, ob_63, ob_64, ob_65, jf7, aGi, aGb, aGz, aGj, leT, leF, ltT, ltF, eqT, eqF, e1, show ((t.length : Int) + 1 - 1) = t.length by omega, sv, hv]
  | succ k ih =>
    intro T cds s hb
    have bt : bZ true = 1 := rfl
    have s' : SnS g z l T cds ones (20 :: (List.replicate k 20 ++ b)) true q := by rw [List.replicate_succ, List.cons_append] at s; exact s
    obtain ⟨R, c, o, ⟨s1, s2, s3⟩, dp, w, r, n⟩ := id s'
    simp only [List.length_cons] at n s1
    have e1 : T 0 59 = ((List.replicate k 20 ++ b).length : Int) + 1 := by rw [s1]; simp
    have sv := s2.1
    have d1 : dpC (20 :: (List.replicate k 20 ++ b)) = 1 + dpC (List.replicate k 20 ++ b) := by show (if _ then _ else _) + _ = _; rw [if_pos (Or.inl rfl)]
    have dp1 : T 0 60 = 1 + (1 + dpC (List.replicate k 20 ++ b)) := by rw [dp, d1]
    have p1 := s'.pop (x := ((List.replicate k 20 ++ b).length : Int)) (y := 1 + dpC (List.replicate k 20 ++ b)) rfl rfl
    have q1 := p1.cd (a := 20) (b := 0) (c := 0) (by omega)
    obtain ⟨T', t1, t2, t3⟩ := ih _ _ q1 hb
    have cw := tm_code (d := d) (m := m) (h := h) (T := ts (ts T 0 59 ((List.replicate k 20 ++ b).length : Int)) 0 60 (1 + dpC (List.replicate k 20 ++ b))) (a := 20) (b := 0) (c := 0) (by rw [p1.2.1.1]; omega) (by rw [p1.2.1.1]; omega)
    refine ⟨T', ?_, (((SnF.f (by omega)).tr (SnF.f (by omega))).tr cdT_F).tr t2, by rw [List.replicate_succ, show cds ++ cdO 20 :: List.replicate k (cdO 20) = cds ++ [(20, 0, 0)] ++ List.replicate k (cdO 20) by simp]; exact t3⟩
    rw [← t1]
    conv => lhs; rw [E7072_0]
    generalize ((List.replicate k 20 ++ b).length : Int) = x at e1 sv cw n ⊢
    generalize dpC (List.replicate k 20 ++ b) = y at dp1 cw ⊢
    simp (disch := omega) only [jc_ref, rI_int, rR_ref, rR_null, rJ_long, ckR_ref, ckR_null, ckr_ref, ckr_null, ckW_int, ckW_ref, ckW_null, cI_ok, cR_ok, cR_null, cV_ok, cJ_ok, qH_eq, qD_in, aG_ref, aS_ref, aL_ref, pF_ref, cK_ref, cK_null, zI_lit, zJ_lit, zI_add, zI_sub, zI_mul, zI_neg, zI_eq, zI_lt, zI_le, Int.reduceLT, Int.reduceLE, Int.reduceAdd, Int.reduceSub, Int.reduceMul, Int.reduceNeg, Int.reduceEq, Int.reduceNe, reduceIte, tw_0, tw_1, tw_2, tw_3, tw_4, tw_5, tw_6, tw_7, tw_8, tw_9, tw_10, tw_11, tw_12, tw_13, tw_14, tw_15, tw_16, tw_17, tw_18, tw_19, tw_20, tw_21, tw_22, tw_23, tw_24, tw_25, tw_26, tw_27, tw_28, tw_29, tw_30, tw_31, ob_0, ob_1, ob_2, ob_3, ob_4, ob_5, ob_6, ob_7, ob_8, ob_9, ob_10, ob_11, ob_12, ob_13, ob_14, ob_15, ob_16, ob_17, ob_18, ob_19, ob_20, ob_21, ob_22, ob_23, ob_24, ob_25, ob_26, ob_27, ob_28, ob_29, ob_30, ob_31, ob_32, ob_33, ob_34, ob_35, ob_36, ob_37, ob_38, ob_39, ob_40, ob_41, ob_42, ob_43, ob_44, ob_45, ob_46, ob_47, ob_48, ob_49, ob_50, ob_51, ob_52, ob_53, ob_54, ob_55, ob_56, ob_57, ob_58, ob_59, ob_60, ob_61, ob_62, ob_63, ob_64, ob_65, jf7, aGi, aGb, aGz, aGj, leT, leF, ltT, ltF, eqT, eqF, tws_0, tws_1, tws_2, tws_3, tws_4, tws_5, tws_6, tws_7, tws_8, tws_9, tws_10, tws_11, tws_12, tws_13, tws_14, tws_15, tws_16, tws_17, tws_18, tws_19, tws_20, tws_21, tws_22, tws_23, tws_24, tws_25, tws_26, tws_27, tws_28, tws_29, tws_30, tws_31, obs_0, obs_2, obs_3, obs_4, obs_5, obs_12, obs_13, obs_14, obs_15, obs_16, obs_17, obs_18, obs_19, obs_20, obs_21, obs_22, obs_26, obs_31, obs_32, obs_33, obs_34, obs_35, obs_41, obs_42, obs_44, obs_48, obs_50, obs_51, obs_52, obs_55, obs_57, obs_58, obs_59, obs_60, obs_61, pF7i, pF7z, pF7j, aSi, aSj, aSb1, aSb24, aSb28, aSb31, ts, tg_eq, tg_ne, tg_tg, fset_eq, fset_ne] at cw ⊢
    simp (disch := omega) only [jc_ref, rI_int, rR_ref, rR_null, rJ_long, ckR_ref, ckR_null, ckr_ref, ckr_null, ckW_int, ckW_ref, ckW_null, cI_ok, cR_ok, cR_null, cV_ok, cJ_ok, qH_eq, qD_in, aG_ref, aS_ref, aL_ref, pF_ref, cK_ref, cK_null, zI_lit, zJ_lit, zI_add, zI_sub, zI_mul, zI_neg, zI_eq, zI_lt, zI_le, Int.reduceLT, Int.reduceLE, Int.reduceAdd, Int.reduceSub, Int.reduceMul, Int.reduceNeg, Int.reduceEq, Int.reduceNe, reduceIte, tw_0, tw_1, tw_2, tw_3, tw_4, tw_5, tw_6, tw_7, tw_8, tw_9, tw_10, tw_11, tw_12, tw_13, tw_14, tw_15, tw_16, tw_17, tw_18, tw_19, tw_20, tw_21, tw_22, tw_23, tw_24, tw_25, tw_26, tw_27, tw_28, tw_29, tw_30, tw_31, ob_0, ob_1, ob_2, ob_3, ob_4, ob_5, ob_6, ob_7, ob_8, ob_9, ob_10, ob_11, ob_12, ob_13, ob_14, ob_15, ob_16, ob_17, ob_18, ob_19, ob_20, ob_21, ob_22, ob_23, ob_24, ob_25, ob_26, ob_27, ob_28, ob_29, ob_30, ob_31, ob_32, ob_33, ob_34, ob_35, ob_36, ob_37, ob_38, ob_39, ob_40, ob_41, ob_42, ob_43, ob_44, ob_45, ob_46, ob_47, ob_48, ob_49, ob_50, ob_51, ob_52, ob_53, ob_54, ob_55, ob_56, ob_57, ob_58, ob_59, ob_60, ob_61, ob_62, ob_63, ob_64, ob_65, jf7, aGi, aGb, aGz, aGj, leT, leF, ltT, ltF, eqT, eqF, tws_0, tws_1, tws_2, tws_3, tws_4, tws_5, tws_6, tws_7, tws_8, tws_9, tws_10, tws_11, tws_12, tws_13, tws_14, tws_15, tws_16, tws_17, tws_18, tws_19, tws_20, tws_21, tws_22, tws_23, tws_24, tws_25, tws_26, tws_27, tws_28, tws_29, tws_30, tws_31, obs_0, obs_2, obs_3, obs_4, obs_5, obs_12, obs_13, obs_14, obs_15, obs_16, obs_17, obs_18, obs_19, obs_20, obs_21, obs_22, obs_26, obs_31, obs_32, obs_33, obs_34, obs_35, obs_41, obs_42, obs_44, obs_48, obs_50, obs_51, obs_52, obs_55, obs_57, obs_58, obs_59, obs_60, obs_61, pF7i, pF7z, pF7j, aSi, aSj, aSb1, aSb24, aSb28, aSb31, ts, tg_eq, tg_ne, tg_tg, fset_eq, fset_ne, e1, dp1, show (x + 1 - 1) = x by omega, show (1 + (1 + y) - 1) = 1 + y by omega, sv, cw]
theorem tm_nots {k : Nat} (s : SnS g z l T cds ones (List.replicate k 20 ++ b) true q) (hb : ∀ v s, b = v :: s → v ≠ 20) : ∃ T', M (d + 2) 7072 [.ref m] (tw m T h) = some (.inl none, tw m T' h) ∧ SnF T T' ∧ SnS g z l T' (cds ++ List.replicate k (cdO 20)) ones b true q := by
  rw [X7072 _ (tw_recv rfl)]
  exact nt_0 k T cds s hb
/-- what is done ahead -/
def jnB (till v : Int) : Prop := v = 21 ∨ (v = 22 ∧ till = 22)
theorem jo_0 {till : Int} (ht : till = 21 ∨ till = 22) : ∀ (p : List Int) (T : Nat → Int → Int) (cds : List Cd), SnS g z l T cds ones (p ++ b) true q → (∀ v ∈ p, jnB till v) → (∀ v s, b = v :: s → ¬ jnB till v) →
    ∃ T', G (d + 1) 7057 0 [.ref m, .int (zI till)] [] (tw m T h) = some (.inl none, tw m T' h) ∧ SnF T T' ∧ SnS g z l T' (cds ++ p.map cdO) ones b true q := by
  intro p
  induction p with
  | nil =>
    intro T cds s _ hb
    simp only [List.nil_append] at s
    simp only [List.map_nil, List.append_nil]
    refine ⟨T, ?_, SnF.rf, s⟩
    obtain ⟨R, c, o, ⟨s1, s2, s3⟩, dp, w, r, n⟩ := s
    cases b with
    | nil =>
      have e0 : T 0 59 = 0 := by rw [s1]; rfl
      rw [E7057_0]
      simp (disch := omega) only [jc_ref, rI_int, rR_ref, rR_null, rJ_long, ckR_ref, ckR_null, ckr_ref, ckr_null, ckW_int, ckW_ref, ckW_null, cI_ok, cR_ok, cR_null, cV_ok, cJ_ok, qH_eq, qD_in, aG_ref, aS_ref, aL_ref, pF_ref, cK_ref, cK_null, zI_lit, zJ_lit, zI_add, zI_sub, zI_mul, zI_neg, zI_eq, zI_lt, zI_le, Int.reduceLT, Int.reduceLE, Int.reduceAdd, Int.reduceSub, Int.reduceMul, Int.reduceNeg, Int.reduceEq, Int.reduceNe, reduceIte, tw_0, tw_1, tw_2, tw_3, tw_4, tw_5, tw_6, tw_7, tw_8, tw_9, tw_10, tw_11, tw_12, tw_13, tw_14, tw_15, tw_16, tw_17, tw_18, tw_19, tw_20, tw_21, tw_22, tw_23, tw_24, tw_25, tw_26, tw_27, tw_28, tw_29, tw_30, tw_31, ob_0, ob_1, ob_2, ob_3, ob_4, ob_5, ob_6, ob_7, ob_8, ob_9, ob_10, ob_11, ob_12, ob_13, ob_14, ob_15, ob_16, ob_17, ob_18, ob_19, ob_20, ob_21, ob_22, ob_23, ob_24, ob_25, ob_26, ob_27, ob_28, ob_29, ob_30, ob_31, ob_32, ob_33, ob_34, ob_35, ob_36, ob_37, ob_38, ob_39, ob_40, ob_41, ob_42, ob_43, ob_44, ob_45, ob_46, ob_47, ob_48, ob_49, ob_50, ob_51, ob_52, ob_53, ob_54, ob_55, ob_56, ob_57, ob_58, ob_59, ob_60, ob_61, ob_62, ob_63, ob_64, ob_65, jf7, aGi, aGb, aGz, aGj, leT, leF, ltT, ltF, eqT, eqF, e0]
    | cons v t =>
      have hv := hb v t rfl
      unfold jnB at hv
      have rv := s3 v List.mem_cons_self
      have sv := s2.1
      have e1 : T 0 59 = t.length + 1 := by rw [s1]; simp
      have bt : bZ true = 1 := rfl
      simp only [List.length_cons] at n
      have h21 : ¬ v = 21 := fun z => hv (Or.inl z)
      rw [E7057_0]
      by_cases h22 : v = 22
      · have ht21 : ¬ till = 22 := fun z => hv (Or.inr ⟨h22, z⟩)
        simp (disch := omega) only [jc_ref, rI_int, rR_ref, rR_null, rJ_long, ckR_ref, ckR_null, ckr_ref, ckr_null, ckW_int, ckW_ref, ckW_null, cI_ok, cR_ok, cR_null, cV_ok, cJ_ok, qH_eq, qD_in, aG_ref, aS_ref, aL_ref, pF_ref, cK_ref, cK_null, zI_lit, zJ_lit, zI_add, zI_sub, zI_mul, zI_neg, zI_eq, zI_lt, zI_le, Int.reduceLT, Int.reduceLE, Int.reduceAdd, Int.reduceSub, Int.reduceMul, Int.reduceNeg, Int.reduceEq, Int.reduceNe, reduceIte, tw_0, tw_1, tw_2, tw_3, tw_4, tw_5, tw_6, tw_7, tw_8, tw_9, tw_10, tw_11, tw_12, tw_13, tw_14, tw_15, tw_16, tw_17, tw_18, tw_19, tw_20, tw_21, tw_22, tw_23, tw_24, tw_25, tw_26, tw_27, tw_28, tw_29, tw_30, tw_31, ob_0, ob_1, ob_2, ob_3, ob_4, ob_5, ob_6, ob_7, ob_8, ob_9, ob_10, ob_11, ob_12, ob_13, ob_14, ob_15, ob_16, ob_17, ob_18, ob_19, ob_20, ob_21, ob_22, ob_23, ob_24, ob_25, ob_26, ob_27, ob_28, ob_29, ob_30, ob_31, ob_32, ob_33, ob_34, ob_35, ob_36, ob_37, ob_38, ob_39, ob_40, ob_41, ob_42, ob_43, ob_44, ob_45, ob_46, ob_47, ob_48, ob_49, ob_50, ob_51, ob_52, ob_53, ob_54, ob_55, ob_56, ob_57, ob_58, ob_59, ob_60, ob_61, ob_62, ob_63, ob_64, ob_65, jf7, aGi, aGb, aGz, aGj, leT, leF, ltT, ltF, eqT, eqF, e1, show ((t.length : Int) + 1 - 1) = t.length by omega, sv, h22, ht21]
      · simp (disch := omega) only [jc_ref, rI_int, rR_ref, rR_null, rJ_long, ckR_ref, ckR_null, ckr_ref, ckr_null, ckW_int, ckW_ref, ckW_null, cI_ok, cR_ok, cR_null, cV_ok, cJ_ok, qH_eq, qD_in, aG_ref, aS_ref, aL_ref, pF_ref, cK_ref, cK_null, zI_lit, zJ_lit, zI_add, zI_sub, zI_mul, zI_neg, zI_eq, zI_lt, zI_le, Int.reduceLT, Int.reduceLE, Int.reduceAdd, Int.reduceSub, Int.reduceMul, Int.reduceNeg, Int.reduceEq, Int.reduceNe, reduceIte, tw_0, tw_1, tw_2, tw_3, tw_4, tw_5, tw_6, tw_7, tw_8, tw_9, tw_10, tw_11, tw_12, tw_13, tw_14, tw_15, tw_16, tw_17, tw_18, tw_19, tw_20, tw_21, tw_22, tw_23, tw_24, tw_25, tw_26, tw_27, tw_28, tw_29, tw_30, tw_31, ob_0, ob_1, ob_2, ob_3, ob_4, ob_5, ob_6, ob_7, ob_8, ob_9, ob_10, ob_11, ob_12, ob_13, ob_14, ob_15, ob_16, ob_17, ob_18, ob_19, ob_20, ob_21, ob_22, ob_23, ob_24, ob_25, ob_26, ob_27, ob_28, ob_29, ob_30, ob_31, ob_32, ob_33, ob_34, ob_35, ob_36, ob_37, ob_38, ob_39, ob_40, ob_41, ob_42, ob_43, ob_44, ob_45, ob_46, ob_47, ob_48, ob_49, ob_50, ob_51, ob_52, ob_53, ob_54, ob_55, ob_56, ob_57, ob_58, ob_59, ob_60, ob_61, ob_62, ob_63, ob_64, ob_65, jf7, aGi, aGb, aGz, aGj, leT, leF, ltT, ltF, eqT, eqF, e1, show ((t.length : Int) + 1 - 1) = t.length by omega, sv, h21, h22]
  | cons v p ih =>
    intro T cds s hp hb
    have bt : bZ true = 1 := rfl
    rw [List.cons_append] at s
    obtain ⟨R, c, o, ⟨s1, s2, s3⟩, dp, w, r, n⟩ := id s
    simp only [List.length_cons] at n s1
    have e1 : T 0 59 = ((p ++ b).length : Int) + 1 := by rw [s1]; simp
    have sv := s2.1
    have hv := hp v List.mem_cons_self
    have hv2 : v = 21 ∨ v = 22 := by unfold jnB at hv; omega
    have p1 := s.pop1 (x := ((p ++ b).length : Int)) rfl hv2
    have q1 := p1.cd (a := v) (b := 0) (c := 0) (by omega)
    obtain ⟨T', t1, t2, t3⟩ := ih _ _ q1 (fun u hu => hp u (List.mem_cons_of_mem _ hu)) hb
    have cw := tm_code (d := d) (m := m) (h := h) (T := ts T 0 59 ((p ++ b).length : Int)) (a := v) (b := 0) (c := 0) (by rw [p1.2.1.1]; omega) (by rw [p1.2.1.1]; omega)
    refine ⟨T', ?_, ((SnF.f (by omega)).tr cdT_F).tr t2, by rw [List.map_cons, show cds ++ cdO v :: p.map cdO = cds ++ [(v, 0, 0)] ++ p.map cdO by simp]; exact t3⟩
    rw [← t1]
    have st : G (d + 1) 7057 0 [.ref m, .int (zI till)] [] (tw m T h) = G (d + 1) 7057 45 [.ref m, .int (zI till)] [] (tw m T h) := by
      generalize ((p ++ b).length : Int) = x at e1 sv n
      rw [E7057_0]
      unfold jnB at hv
      rcases hv2 with e | e
      · subst e
        simp (disch := omega) only [jc_ref, rI_int, rR_ref, rR_null, rJ_long, ckR_ref, ckR_null, ckr_ref, ckr_null, ckW_int, ckW_ref, ckW_null, cI_ok, cR_ok, cR_null, cV_ok, cJ_ok, qH_eq, qD_in, aG_ref, aS_ref, aL_ref, pF_ref, cK_ref, cK_null, zI_lit, zJ_lit, zI_add, zI_sub, zI_mul, zI_neg, zI_eq, zI_lt, zI_le, Int.reduceLT, Int.reduceLE, Int.reduceAdd, Int.reduceSub, Int.reduceMul, Int.reduceNeg, Int.reduceEq, Int.reduceNe, reduceIte, tw_0, tw_1, tw_2, tw_3, tw_4, tw_5, tw_6, tw_7, tw_8, tw_9, tw_10, tw_11, tw_12, tw_13, tw_14, tw_15, tw_16, tw_17, tw_18, tw_19, tw_20, tw_21, tw_22, tw_23, tw_24, tw_25, tw_26, tw_27, tw_28, tw_29, tw_30, tw_31, ob_0, ob_1, ob_2, ob_3, ob_4, ob_5, ob_6, ob_7, ob_8, ob_9, ob_10, ob_11, ob_12, ob_13, ob_14, ob_15, ob_16, ob_17, ob_18, ob_19, ob_20, ob_21, ob_22, ob_23, ob_24, ob_25, ob_26, ob_27, ob_28, ob_29, ob_30, ob_31, ob_32, ob_33, ob_34, ob_35, ob_36, ob_37, ob_38, ob_39, ob_40, ob_41, ob_42, ob_43, ob_44, ob_45, ob_46, ob_47, ob_48, ob_49, ob_50, ob_51, ob_52, ob_53, ob_54, ob_55, ob_56, ob_57, ob_58, ob_59, ob_60, ob_61, ob_62, ob_63, ob_64, ob_65, jf7, aGi, aGb, aGz, aGj, leT, leF, ltT, ltF, eqT, eqF, e1, show (x + 1 - 1) = x by omega, sv]
      · have e22 : till = 22 := by omega
        subst e
        simp (disch := omega) only [jc_ref, rI_int, rR_ref, rR_null, rJ_long, ckR_ref, ckR_null, ckr_ref, ckr_null, ckW_int, ckW_ref, ckW_null, cI_ok, cR_ok, cR_null, cV_ok, cJ_ok, qH_eq, qD_in, aG_ref, aS_ref, aL_ref, pF_ref, cK_ref, cK_null, zI_lit, zJ_lit, zI_add, zI_sub, zI_mul, zI_neg, zI_eq, zI_lt, zI_le, Int.reduceLT, Int.reduceLE, Int.reduceAdd, Int.reduceSub, Int.reduceMul, Int.reduceNeg, Int.reduceEq, Int.reduceNe, reduceIte, tw_0, tw_1, tw_2, tw_3, tw_4, tw_5, tw_6, tw_7, tw_8, tw_9, tw_10, tw_11, tw_12, tw_13, tw_14, tw_15, tw_16, tw_17, tw_18, tw_19, tw_20, tw_21, tw_22, tw_23, tw_24, tw_25, tw_26, tw_27, tw_28, tw_29, tw_30, tw_31, ob_0, ob_1, ob_2, ob_3, ob_4, ob_5, ob_6, ob_7, ob_8, ob_9, ob_10, ob_11, ob_12, ob_13, ob_14, ob_15, ob_16, ob_17, ob_18, ob_19, ob_20, ob_21, ob_22, ob_23, ob_24, ob_25, ob_26, ob_27, ob_28, ob_29, ob_30, ob_31, ob_32, ob_33, ob_34, ob_35, ob_36, ob_37, ob_38, ob_39, ob_40, ob_41, ob_42, ob_43, ob_44, ob_45, ob_46, ob_47, ob_48, ob_49, ob_50, ob_51, ob_52, ob_53, ob_54, ob_55, ob_56, ob_57, ob_58, ob_59, ob_60, ob_61, ob_62, ob_63, ob_64, ob_65, jf7, aGi, aGb, aGz, aGj, leT, leF, ltT, ltF, eqT, eqF, e1, show (x + 1 - 1) = x by omega, sv, e22]
    rw [st]
    conv => lhs; rw [E7057_45]
    generalize ((p ++ b).length : Int) = x at e1 sv cw n ⊢
    simp (disch := omega) only [jc_ref, rI_int, rR_ref, rR_null, rJ_long, ckR_ref, ckR_null, ckr_ref, ckr_null, ckW_int, ckW_ref, ckW_null, cI_ok, cR_ok, cR_null, cV_ok, cJ_ok, qH_eq, qD_in, aG_ref, aS_ref, aL_ref, pF_ref, cK_ref, cK_null, zI_lit, zJ_lit, zI_add, zI_sub, zI_mul, zI_neg, zI_eq, zI_lt, zI_le, Int.reduceLT, Int.reduceLE, Int.reduceAdd, Int.reduceSub, Int.reduceMul, Int.reduceNeg, Int.reduceEq, Int.reduceNe, reduceIte, tw_0, tw_1, tw_2, tw_3, tw_4, tw_5, tw_6, tw_7, tw_8, tw_9, tw_10, tw_11, tw_12, tw_13, tw_14, tw_15, tw_16, tw_17, tw_18, tw_19, tw_20, tw_21, tw_22, tw_23, tw_24, tw_25, tw_26, tw_27, tw_28, tw_29, tw_30, tw_31, ob_0, ob_1, ob_2, ob_3, ob_4, ob_5, ob_6, ob_7, ob_8, ob_9, ob_10, ob_11, ob_12, ob_13, ob_14, ob_15, ob_16, ob_17, ob_18, ob_19, ob_20, ob_21, ob_22, ob_23, ob_24, ob_25, ob_26, ob_27, ob_28, ob_29, ob_30, ob_31, ob_32, ob_33, ob_34, ob_35, ob_36, ob_37, ob_38, ob_39, ob_40, ob_41, ob_42, ob_43, ob_44, ob_45, ob_46, ob_47, ob_48, ob_49, ob_50, ob_51, ob_52, ob_53, ob_54, ob_55, ob_56, ob_57, ob_58, ob_59, ob_60, ob_61, ob_62, ob_63, ob_64, ob_65, jf7, aGi, aGb, aGz, aGj, leT, leF, ltT, ltF, eqT, eqF, tws_0, tws_1, tws_2, tws_3, tws_4, tws_5, tws_6, tws_7, tws_8, tws_9, tws_10, tws_11, tws_12, tws_13, tws_14, tws_15, tws_16, tws_17, tws_18, tws_19, tws_20, tws_21, tws_22, tws_23, tws_24, tws_25, tws_26, tws_27, tws_28, tws_29, tws_30, tws_31, obs_0, obs_2, obs_3, obs_4, obs_5, obs_12, obs_13, obs_14, obs_15, obs_16, obs_17, obs_18, obs_19, obs_20, obs_21, obs_22, obs_26, obs_31, obs_32, obs_33, obs_34, obs_35, obs_41, obs_42, obs_44, obs_48, obs_50, obs_51, obs_52, obs_55, obs_57, obs_58, obs_59, obs_60, obs_61, pF7i, pF7z, pF7j, aSi, aSj, aSb1, aSb24, aSb28, aSb31, ts, tg_eq, tg_ne, tg_tg, fset_eq, fset_ne] at cw ⊢
    simp (disch := omega) only [jc_ref, rI_int, rR_ref, rR_null, rJ_long, ckR_ref, ckR_null, ckr_ref, ckr_null, ckW_int, ckW_ref, ckW_null, cI_ok, cR_ok, cR_null, cV_ok, cJ_ok, qH_eq, qD_in, aG_ref, aS_ref, aL_ref, pF_ref, cK_ref, cK_null, zI_lit, zJ_lit, zI_add, zI_sub, zI_mul, zI_neg, zI_eq, zI_lt, zI_le, Int.reduceLT, Int.reduceLE, Int.reduceAdd, Int.reduceSub, Int.reduceMul, Int.reduceNeg, Int.reduceEq, Int.reduceNe, reduceIte, tw_0, tw_1, tw_2, tw_3, tw_4, tw_5, tw_6, tw_7, tw_8, tw_9, tw_10, tw_11, tw_12, tw_13, tw_14, tw_15, tw_16, tw_17, tw_18, tw_19, tw_20, tw_21, tw_22, tw_23, tw_24, tw_25, tw_26, tw_27, tw_28, tw_29, tw_30, tw_31, ob_0, ob_1, ob_2, ob_3, ob_4, ob_5, ob_6, ob_7, ob_8, ob_9, ob_10, ob_11, ob_12, ob_13, ob_14, ob_15, ob_16, ob_17, ob_18, ob_19, ob_20, ob_21, ob_22, ob_23, ob_24, ob_25, ob_26, ob_27, ob_28, ob_29, ob_30, ob_31, ob_32, ob_33, ob_34, ob_35, ob_36, ob_37, ob_38, ob_39, ob_40, ob_41, ob_42, ob_43, ob_44, ob_45, ob_46, ob_47, ob_48, ob_49, ob_50, ob_51, ob_52, ob_53, ob_54, ob_55, ob_56, ob_57, ob_58, ob_59, ob_60, ob_61, ob_62, ob_63, ob_64, ob_65, jf7, aGi, aGb, aGz, aGj, leT, leF, ltT, ltF, eqT, eqF, tws_0, tws_1, tws_2, tws_3, tws_4, tws_5, tws_6, tws_7, tws_8, tws_9, tws_10, tws_11, tws_12, tws_13, tws_14, tws_15, tws_16, tws_17, tws_18, tws_19, tws_20, tws_21, tws_22, tws_23, tws_24, tws_25, tws_26, tws_27, tws_28, tws_29, tws_30, tws_31, obs_0, obs_2, obs_3, obs_4, obs_5, obs_12, obs_13, obs_14, obs_15, obs_16, obs_17, obs_18, obs_19, obs_20, obs_21, obs_22, obs_26, obs_31, obs_32, obs_33, obs_34, obs_35, obs_41, obs_42, obs_44, obs_48, obs_50, obs_51, obs_52, obs_55, obs_57, obs_58, obs_59, obs_60, obs_61, pF7i, pF7z, pF7j, aSi, aSj, aSb1, aSb24, aSb28, aSb31, ts, tg_eq, tg_ne, tg_tg, fset_eq, fset_ne, e1, show (x + 1 - 1) = x by omega, sv, cw]
theorem tm_joins {till : Int} {p : List Int} (ht : till = 21 ∨ till = 22) (s : SnS g z l T cds ones (p ++ b) true q) (hp : ∀ v ∈ p, jnB till v) (hb : ∀ v s, b = v :: s → ¬ jnB till v) : ∃ T', M (d + 2) 7057 [.ref m, .int (zI till)] (tw m T h) = some (.inl none, tw m T' h) ∧ SnF T T' ∧ SnS g z l T' (cds ++ p.map cdO) ones b true q := by
  rw [X7057 _ (tw_recv rfl)]
  exact jo_0 ht p T cds s hp hb
end
