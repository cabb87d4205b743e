/-! the twin draws many deeds -/
section
variable {d m : Nat} {h : AH} {T : Nat → Int → Int}
/-- what deeds leave as it is -/
def DeF (T X : Nat → Int → Int) : Prop := (∀ k, k ≠ 0 → k ≠ 2 → k ≠ 5 → k ≠ 8 → k ≠ 9 → k ≠ 10 → k ≠ 11 → k ≠ 12 → k ≠ 13 → k ≠ 14 → X k = T k) ∧ (∀ i, i ≠ 26 → i ≠ 31 → i ≠ 32 → i ≠ 33 → i ≠ 34 → i ≠ 35 → i ≠ 51 → X 0 i = T 0 i) ∧ (∀ i, i < 148 ∨ 1239 ≤ i → X 2 i = T 2 i)
theorem DeF.refl : DeF T T := ⟨fun _ _ _ _ _ _ _ _ _ _ _ => rfl, fun _ _ _ _ _ _ _ _ => rfl, fun _ _ => rfl⟩
theorem DeF.tr {X Y : Nat → Int → Int} (a : DeF T X) (b : DeF X Y) : DeF T Y := ⟨fun k h0 h2 h5 h8 h9 h10 h11 h12 h13 h14 => (b.1 k h0 h2 h5 h8 h9 h10 h11 h12 h13 h14).trans (a.1 k h0 h2 h5 h8 h9 h10 h11 h12 h13 h14), fun i h1 h2 h3 h4 h5 h6 h7 => (b.2.1 i h1 h2 h3 h4 h5 h6 h7).trans (a.2.1 i h1 h2 h3 h4 h5 h6 h7), fun i hi => (b.2.2 i hi).trans (a.2.2 i hi)⟩
theorem DeF.dw : DeF T (dwQ T) := ⟨fun k h0 _ _ _ _ _ _ _ _ _ => dwQ_k h0, fun i _ _ _ _ _ _ h => by unfold dwQ; rw [ts_eq, fset_ne h], fun i _ => rfl⟩
theorem DeF.st {S : Int → Int} (e : ∀ i, i < 148 ∨ 1239 ≤ i → S i = T 2 i) : DeF T (tg T 2 S) := ⟨fun k _ h2 _ _ _ _ _ _ _ _ => tg_ne h2, fun i _ _ _ _ _ _ _ => by rw [tg_ne (by decide)], fun i hi => by rw [tg_eq]; exact e i hi⟩
theorem bg_lo {S : Int → Int} {i : Int} (h : i < 148 ∨ 1239 ≤ i) : bgS S i = S i := by rw [bgS_at, if_neg (by omega), if_neg (by omega), if_neg (by omega)]
theorem bk_lo {S : Int → Int} {i : Int} (h : i < 148 ∨ 1239 ≤ i) : bkS S i = S i := by rw [bkS_at, if_neg (by omega), if_neg (by omega), if_neg (by omega), if_neg (by omega)]
theorem cl_lo {S : Int → Int} {i : Int} (h : i < 148 ∨ 1239 ≤ i) : clS (fset S 149 0) i = S i := by rw [clS_at, if_neg (by omega), fset_ne (by omega)]
theorem DeF.wc : DeF T (wcQ T).2 := by
  unfold wcQ
  split
  · exact DeF.refl
  · refine ⟨fun k h0 _ _ h8 h9 h10 _ _ _ _ => ?_, fun i h26 _ _ _ _ _ _ => ?_, fun i _ => ?_⟩
    · show layL (ts T 0 26 0) _ k = T k
      rw [layL_k ⟨h0, h8, h9, h10⟩, ts_ne h0]
    · show layL (ts T 0 26 0) _ 0 i = T 0 i
      exact lay_0 h26
    · show layL (ts T 0 26 0) _ 2 i = T 2 i
      rw [layL_k (by decide), ts_ne (by decide)]
theorem wcQ_k {k : Nat} (h0 : k ≠ 0) (h8 : k ≠ 8) (h9 : k ≠ 9) (h10 : k ≠ 10) : (wcQ T).2 k = T k := by
  unfold wcQ
  split
  · rfl
  · show layL (ts T 0 26 0) _ k = T k
    rw [layL_k ⟨h0, h8, h9, h10⟩, ts_ne h0]
theorem wcQ_0 {i : Int} (h : i ≠ 26) : (wcQ T).2 0 i = T 0 i := by
  unfold wcQ
  split
  · rfl
  · exact lay_0 h
theorem DeF.jd {to : Int} {J : Nat → Int → Int} {why : Int} (h : JdW T J why) : DeF T J := ⟨fun k h0 h2 _ h8 h9 h10 h11 h12 h13 h14 => h.2.1 k h0 h2 h8 h9 h10 h11 h12 h13 h14, fun i h1 h2 h3 h4 h5 h6 _ => h.2.2.1 i h1 h2 h3 h4 h5 h6, fun i hi => h.2.2.2.2.2.1 i (by omega)⟩
theorem ddQ_I (I : DrI T) : DrI (ddQ T).2 ∧ DeF T (ddQ T).2 ∧ ((ddQ T).1 = 0 ∨ (ddQ T).1 = 1) := by
  obtain ⟨W, hA, h35, s0⟩ := id I
  have N := W.n0
  have r1 := drV_rg (s := T 0 51) (n := 6) (by decide)
  have r2 := drV_rg (s := drN (T 0 51)) (n := T 2 0) (by omega)
  have dA : DeF T (dwQ (dwQ T)) := DeF.dw.tr DeF.dw
  have A2 : dwQ (dwQ T) 2 = T 2 := rfl
  have A35 : dwQ (dwQ T) 0 35 = T 0 35 := by
    unfold dwQ
    rw [ts_eq, fset_ne (by decide), ts_eq, fset_ne (by decide)]
  unfold ddQ
  simp only
  by_cases c : 5 ≤ drV (T 0 51) 6
  · rw [if_pos c]
    by_cases e : T 2 149 = 0
    · rw [if_pos e]
      refine ⟨⟨?_, hA, ?_, ?_⟩, dA.tr (DeF.st fun i hi => bg_lo hi), Or.inr rfl⟩
      · show StW (tg (dwQ (dwQ T)) 2 (bgS (dwQ (dwQ T) 2)) 2)
        rw [tg_eq]; exact W.bg
      · show tg (dwQ (dwQ T)) 2 (bgS (dwQ (dwQ T) 2)) 0 35 = 0 ∨ _
        rw [tg_ne (by decide), A35]; exact h35
      · show 1 ≤ tg (dwQ (dwQ T)) 2 (bgS (dwQ (dwQ T) 2)) 2 0
        rw [tg_eq, bg_lo (by omega)]; exact s0
    · rw [if_neg e]
      have C2 : (wcQ (dwQ (dwQ T))).2 2 = T 2 := wcQ_k (by decide) (by decide) (by decide) (by decide)
      have C12 : (wcQ (dwQ (dwQ T))).2 12 = T 12 := wcQ_k (by decide) (by decide) (by decide) (by decide)
      have C35 : (wcQ (dwQ (dwQ T))).2 0 35 = T 0 35 := (wcQ_0 (by decide)).trans A35
      have dC : DeF T (wcQ (dwQ (dwQ T))).2 := dA.tr DeF.wc
      generalize wcQ (dwQ (dwQ T)) = C at C2 C12 C35 dC ⊢
      by_cases z : C.1 = 0
      · rw [if_pos z]
        refine ⟨⟨?_, ?_, ?_, ?_⟩, dC.tr (DeF.st fun i hi => cl_lo hi), Or.inr rfl⟩
        · show StW (tg C.2 2 (clS (fset (C.2 2) 149 0)) 2)
          rw [tg_eq, C2]; exact W.co0
        · show AhW (tg C.2 2 (clS (fset (C.2 2) 149 0)) 12)
          rw [tg_ne (by decide), C12]; exact hA
        · show tg C.2 2 (clS (fset (C.2 2) 149 0)) 0 35 = 0 ∨ tg C.2 2 (clS (fset (C.2 2) 149 0)) 0 35 = 1
          rw [tg_ne (by decide), C35]; exact h35
        · show 1 ≤ tg C.2 2 (clS (fset (C.2 2) 149 0)) 2 0
          rw [tg_eq, cl_lo (by omega), C2]; exact s0
      · rw [if_neg z]
        refine ⟨⟨?_, ?_, ?_, ?_⟩, dC.tr (DeF.st fun i hi => bk_lo hi), Or.inr rfl⟩
        · show StW (tg C.2 2 (bkS (C.2 2)) 2)
          rw [tg_eq, C2]; exact W.bk
        · show AhW (tg C.2 2 (bkS (C.2 2)) 12)
          rw [tg_ne (by decide), C12]; exact hA
        · show tg C.2 2 (bkS (C.2 2)) 0 35 = 0 ∨ tg C.2 2 (bkS (C.2 2)) 0 35 = 1
          rw [tg_ne (by decide), C35]; exact h35
        · show 1 ≤ tg C.2 2 (bkS (C.2 2)) 2 0
          rw [tg_eq, bk_lo (by omega), C2]; exact s0
  · rw [if_neg c]
    have h1 := W.1.2.1 _ r2.1 r2.2
    have L := drQ_L (T := dwQ (dwQ T)) (what := drV (T 0 51) 6) (t := drV (drN (T 0 51)) (T 2 0)) W r1.1 (by omega) r2.1 r2.2 h1
    have qk : ∀ k, k ≠ 0 → k ≠ 5 → drQ (dwQ (dwQ T)) (drV (T 0 51) 6) (drV (drN (T 0 51)) (T 2 0)) k = T k := fun k k0 k5 => by rw [drQ_k k0 k5, dwQ_k k0, dwQ_k k0]
    have q0 : ∀ i, i ≠ 51 → drQ (dwQ (dwQ T)) (drV (T 0 51) 6) (drV (drN (T 0 51)) (T 2 0)) 0 i = T 0 i := fun i hi => by
      rw [drQ_0 hi]
      unfold dwQ
      rw [ts_eq, fset_ne hi, ts_eq, fset_ne hi]
    have q2 := qk 2 (by decide) (by decide)
    have jw := judT_W (T := drQ (dwQ (dwQ T)) (drV (T 0 51) 6) (drV (drN (T 0 51)) (T 2 0))) (to := 0) (by rw [q2]; exact W) (by rw [qk 12 (by decide) (by decide)]; exact hA) (by rw [q2]; exact L) (by rw [q0 35 (by decide)]; exact h35)
    have dq : DeF T (drQ (dwQ (dwQ T)) (drV (T 0 51) 6) (drV (drN (T 0 51)) (T 2 0))) := ⟨fun k h0 _ h5 _ _ _ _ _ _ _ => qk k h0 h5, fun i _ _ _ _ _ _ h => q0 i h, fun i _ => by rw [q2]⟩
    have dj : DeF _ _ := DeF.jd (to := 0) jw
    refine ⟨⟨jw.2.2.2.1, jw.2.2.2.2.2.2.2.2.2.2.2.2.2, jw.2.2.2.2.2.2.2.2.2.2.2.1, ?_⟩, dq.tr dj, ?_⟩
    · rw [dj.2.2 0 (by omega), q2]; exact s0
    · simp only; split
      · exact Or.inr rfl
      · exact Or.inl rfl
def dnL : Nat → Int → (Nat → Int → Int) → Int × (Nat → Int → Int)
  | 0, n, T => (n, T)
  | j + 1, n, T => dnL j (n + (ddQ T).1) (ddQ T).2
theorem dnL_I : ∀ (j : Nat) (n : Int) (T : Nat → Int → Int), DrI T → DrI (dnL j n T).2 ∧ DeF T (dnL j n T).2 ∧ n ≤ (dnL j n T).1 ∧ (dnL j n T).1 ≤ n + j
  | 0, n, T, I => ⟨I, DeF.refl, Int.le_refl _, by show n ≤ _; omega⟩
  | j + 1, n, T, I => by
    obtain ⟨a, b, c⟩ := ddQ_I I
    obtain ⟨e, f, g, k⟩ := dnL_I j (n + (ddQ T).1) (ddQ T).2 a
    exact ⟨e, b.tr f, by show n ≤ (dnL j _ _).1; omega, by show (dnL j _ _).1 ≤ _; omega⟩
/-- the end of draws: what was is kept, if anything is done -/
def dnE (r : Int × (Nat → Int → Int)) : Nat → Int → Int := if r.1 ≤ 0 then r.2 else stQ r.2 21
theorem dn_42 {n : Int} {x2 : Int32} (n0 : 1 ≤ n) (n4 : n ≤ 40) : ∀ (j : Nat) (k i : Int) (T : Nat → Int → Int), DrI T → (0 ≤ T 0 44 ∧ T 0 44 ≤ 8) → 0 ≤ k → k ≤ i → i + j = n →
    G (d + 8) 7023 42 [.ref m, .int (zI n), .int x2, .int (zI k), .int (zI i)] [] (tw m T h) = some (.inl (some (.int (zI (dnL j k T).1))), tw m (dnE (dnL j k T)) h) := by
  intro j
  induction j with
  | zero =>
    intro k i T I h44 k0 ki hi
    have so := tm_stores21 (d := d + 7) (m := m) (h := h) (T := T) h44.1 h44.2
    unfold dnL dnE
    rw [E7023_42]
    simp only
    by_cases e : k ≤ 0
    · rw [if_pos e]
      simp (disch := omega) only [jc_ref, rI_int, rR_ref, rR_null, rJ_long, ckR_ref, ckR_null, ckr_ref, ckr_null, ckW_int, ckW_ref, ckW_null, cI_ok, cR_ok, cR_null, cV_ok, cJ_ok, qH_eq, qD_in, aG_ref, aS_ref, aL_ref, pF_ref, cK_ref, cK_null, zI_lit, zJ_lit, zI_add, zI_sub, zI_mul, zI_neg, zI_eq, zI_lt, zI_le, Int.reduceLT, Int.reduceLE, Int.reduceAdd, Int.reduceSub, Int.reduceMul, Int.reduceNeg, Int.reduceEq, Int.reduceNe, reduceIte, tw_0, tw_1, tw_2, tw_3, tw_4, tw_5, tw_6, tw_7, tw_8, tw_9, tw_10, tw_11, tw_12, tw_13, tw_14, tw_15, tw_16, tw_17, tw_18, tw_19, tw_20, tw_21, tw_22, tw_23, tw_24, tw_25, tw_26, tw_27, tw_28, tw_29, tw_30, tw_31, ob_0, ob_1, ob_2, ob_3, ob_4, ob_5, ob_6, ob_7, ob_8, ob_9, ob_10, ob_11, ob_12, ob_13, ob_14, ob_15, ob_16, ob_17, ob_18, ob_19, ob_20, ob_21, ob_22, ob_23, ob_24, ob_25, ob_26, ob_27, ob_28, ob_29, ob_30, ob_31, ob_32, ob_33, ob_34, ob_35, ob_36, ob_37, ob_38, ob_39, ob_40, ob_41, ob_42, ob_43, ob_44, ob_45, ob_46, ob_47, ob_48, ob_49, ob_50, ob_51, ob_52, ob_53, ob_54, ob_55, ob_56, ob_57, ob_58, ob_59, ob_60, ob_61, ob_62, ob_63, ob_64, ob_65, jf7, aGi, aGb, aGz, aGj, leT, leF, ltT, ltF, eqT, eqF, e]
    · rw [if_neg e]
      simp (disch := omega) only [jc_ref, rI_int, rR_ref, rR_null, rJ_long, ckR_ref, ckR_null, ckr_ref, ckr_null, ckW_int, ckW_ref, ckW_null, cI_ok, cR_ok, cR_null, cV_ok, cJ_ok, qH_eq, qD_in, aG_ref, aS_ref, aL_ref, pF_ref, cK_ref, cK_null, zI_lit, zJ_lit, zI_add, zI_sub, zI_mul, zI_neg, zI_eq, zI_lt, zI_le, Int.reduceLT, Int.reduceLE, Int.reduceAdd, Int.reduceSub, Int.reduceMul, Int.reduceNeg, Int.reduceEq, Int.reduceNe, reduceIte, tw_0, tw_1, tw_2, tw_3, tw_4, tw_5, tw_6, tw_7, tw_8, tw_9, tw_10, tw_11, tw_12, tw_13, tw_14, tw_15, tw_16, tw_17, tw_18, tw_19, tw_20, tw_21, tw_22, tw_23, tw_24, tw_25, tw_26, tw_27, tw_28, tw_29, tw_30, tw_31, ob_0, ob_1, ob_2, ob_3, ob_4, ob_5, ob_6, ob_7, ob_8, ob_9, ob_10, ob_11, ob_12, ob_13, ob_14, ob_15, ob_16, ob_17, ob_18, ob_19, ob_20, ob_21, ob_22, ob_23, ob_24, ob_25, ob_26, ob_27, ob_28, ob_29, ob_30, ob_31, ob_32, ob_33, ob_34, ob_35, ob_36, ob_37, ob_38, ob_39, ob_40, ob_41, ob_42, ob_43, ob_44, ob_45, ob_46, ob_47, ob_48, ob_49, ob_50, ob_51, ob_52, ob_53, ob_54, ob_55, ob_56, ob_57, ob_58, ob_59, ob_60, ob_61, ob_62, ob_63, ob_64, ob_65, jf7, aGi, aGb, aGz, aGj, leT, leF, ltT, ltF, eqT, eqF, e, so]
  | succ j ih =>
    intro k i T I h44 k0 ki hi
    have dd := tm_drawDeed (d := d + 1) (m := m) (h := h) I
    obtain ⟨a, b, c⟩ := ddQ_I I
    have e44 : (ddQ T).2 0 44 = T 0 44 := b.2.1 44 (by decide) (by decide) (by decide) (by decide) (by decide) (by decide) (by decide)
    have u : dnL (j + 1) k T = dnL j (k + (ddQ T).1) (ddQ T).2 := rfl
    rw [u, ← ih (k + (ddQ T).1) (i + 1) (ddQ T).2 a (by rw [e44]; exact h44) (by omega) (by omega) (by omega), E7023_42]
    generalize ddQ T = D at dd c ⊢
    rcases c with c | c
    · rw [c] at dd ⊢
      simp (disch := omega) only [jc_ref, rI_int, rR_ref, rR_null, rJ_long, ckR_ref, ckR_null, ckr_ref, ckr_null, ckW_int, ckW_ref, ckW_null, cI_ok, cR_ok, cR_null, cV_ok, cJ_ok, qH_eq, qD_in, aG_ref, aS_ref, aL_ref, pF_ref, cK_ref, cK_null, zI_lit, zJ_lit, zI_add, zI_sub, zI_mul, zI_neg, zI_eq, zI_lt, zI_le, Int.reduceLT, Int.reduceLE, Int.reduceAdd, Int.reduceSub, Int.reduceMul, Int.reduceNeg, Int.reduceEq, Int.reduceNe, reduceIte, tw_0, tw_1, tw_2, tw_3, tw_4, tw_5, tw_6, tw_7, tw_8, tw_9, tw_10, tw_11, tw_12, tw_13, tw_14, tw_15, tw_16, tw_17, tw_18, tw_19, tw_20, tw_21, tw_22, tw_23, tw_24, tw_25, tw_26, tw_27, tw_28, tw_29, tw_30, tw_31, ob_0, ob_1, ob_2, ob_3, ob_4, ob_5, ob_6, ob_7, ob_8, ob_9, ob_10, ob_11, ob_12, ob_13, ob_14, ob_15, ob_16, ob_17, ob_18, ob_19, ob_20, ob_21, ob_22, ob_23, ob_24, ob_25, ob_26, ob_27, ob_28, ob_29, ob_30, ob_31, ob_32, ob_33, ob_34, ob_35, ob_36, ob_37, ob_38, ob_39, ob_40, ob_41, ob_42, ob_43, ob_44, ob_45, ob_46, ob_47, ob_48, ob_49, ob_50, ob_51, ob_52, ob_53, ob_54, ob_55, ob_56, ob_57, ob_58, ob_59, ob_60, ob_61, ob_62, ob_63, ob_64, ob_65, jf7, aGi, aGb, aGz, aGj, leT, leF, ltT, ltF, eqT, eqF, dd]
    · rw [c] at dd ⊢
      simp (disch := omega) only [jc_ref, rI_int, rR_ref, rR_null, rJ_long, ckR_ref, ckR_null, ckr_ref, ckr_null, ckW_int, ckW_ref, ckW_null, cI_ok, cR_ok, cR_null, cV_ok, cJ_ok, qH_eq, qD_in, aG_ref, aS_ref, aL_ref, pF_ref, cK_ref, cK_null, zI_lit, zJ_lit, zI_add, zI_sub, zI_mul, zI_neg, zI_eq, zI_lt, zI_le, Int.reduceLT, Int.reduceLE, Int.reduceAdd, Int.reduceSub, Int.reduceMul, Int.reduceNeg, Int.reduceEq, Int.reduceNe, reduceIte, tw_0, tw_1, tw_2, tw_3, tw_4, tw_5, tw_6, tw_7, tw_8, tw_9, tw_10, tw_11, tw_12, tw_13, tw_14, tw_15, tw_16, tw_17, tw_18, tw_19, tw_20, tw_21, tw_22, tw_23, tw_24, tw_25, tw_26, tw_27, tw_28, tw_29, tw_30, tw_31, ob_0, ob_1, ob_2, ob_3, ob_4, ob_5, ob_6, ob_7, ob_8, ob_9, ob_10, ob_11, ob_12, ob_13, ob_14, ob_15, ob_16, ob_17, ob_18, ob_19, ob_20, ob_21, ob_22, ob_23, ob_24, ob_25, ob_26, ob_27, ob_28, ob_29, ob_30, ob_31, ob_32, ob_33, ob_34, ob_35, ob_36, ob_37, ob_38, ob_39, ob_40, ob_41, ob_42, ob_43, ob_44, ob_45, ob_46, ob_47, ob_48, ob_49, ob_50, ob_51, ob_52, ob_53, ob_54, ob_55, ob_56, ob_57, ob_58, ob_59, ob_60, ob_61, ob_62, ob_63, ob_64, ob_65, jf7, aGi, aGb, aGz, aGj, leT, leF, ltT, ltF, eqT, eqF, dd]
def dnB (T : Nat → Int → Int) (x : Int) : Nat → Int → Int := ts (tg (ts T 0 0 0) 21 (bl 0 1091 (fun y => T 2 (148 + y)) (T 21))) 0 51 x
def dnQ (T : Nat → Int → Int) (n x : Int) : Int × (Nat → Int → Int) := if isInZ n 1 40 = true then (if T 2 0 = 0 then (0, ts T 0 0 0) else ((dnL n.toNat 0 (dnB T x)).1, dnE (dnL n.toNat 0 (dnB T x)))) else (-1, ts T 0 0 0)
theorem dnB_I {x : Int} (W : StW (T 2)) (hA : AhW (T 12)) (h35 : T 0 35 = 0 ∨ T 0 35 = 1) (h : ¬ T 2 0 = 0) : DrI (dnB T x) := by
  have N := W.n0
  refine ⟨W, hA, ?_, by show 1 ≤ T 2 0; omega⟩
  unfold dnB
  rw [ts_eq, fset_ne (by decide), tg_ne (by decide), ts_eq, fset_ne (by decide)]
  exact h35
theorem tm_drawn {n x : Int} (hn : Rg n) (W : StW (T 2)) (hA : AhW (T 12)) (h35 : T 0 35 = 0 ∨ T 0 35 = 1) (n0 : 0 ≤ T 0 44) (n1 : T 0 44 ≤ 8) : M (d + 9) 7023 [.ref m, .int (zI n), .int (zI x)] (tw m T h) = some (.inl (some (.int (zI (dnQ T n x).1))), tw m (dnQ T n x).2 h) := by
  have N := W.n0
  have hi := tm_isIn (d := d + 7) (h := tw m (ts T 0 0 0) h) hn (low := 1) (high := 40) ⟨by omega, by omega⟩ ⟨by omega, by omega⟩
  have tr := tm_tries (d := d + 7) (m := m) (h := h) (T := ts T 0 0 0)
  rw [ts_ne (show (2 : Nat) ≠ 0 by decide), ts_ne (show (21 : Nat) ≠ 0 by decide)] at tr
  rw [show ts T 0 0 0 = tg T 0 (fset (T 0) 0 0) from rfl] at hi tr
  rw [X7023 _ (tw_recv rfl), E7023_0]
  unfold dnQ
  cases e : isInZ n 1 40 with
  | false =>
    rw [if_neg (by decide)]
    simp (disch := omega) only [jc_ref, rI_int, rR_ref, rR_null, rJ_long, ckR_ref, ckR_null, ckr_ref, ckr_null, ckW_int, ckW_ref, ckW_null, cI_ok, cR_ok, cR_null, cV_ok, cJ_ok, qH_eq, qD_in, aG_ref, aS_ref, aL_ref, pF_ref, cK_ref, cK_null, zI_lit, zJ_lit, zI_add, zI_sub, zI_mul, zI_neg, zI_eq, zI_lt, zI_le, Int.reduceLT, Int.reduceLE, Int.reduceAdd, Int.reduceSub, Int.reduceMul, Int.reduceNeg, Int.reduceEq, Int.reduceNe, reduceIte, tw_0, tw_1, tw_2, tw_3, tw_4, tw_5, tw_6, tw_7, tw_8, tw_9, tw_10, tw_11, tw_12, tw_13, tw_14, tw_15, tw_16, tw_17, tw_18, tw_19, tw_20, tw_21, tw_22, tw_23, tw_24, tw_25, tw_26, tw_27, tw_28, tw_29, tw_30, tw_31, ob_0, ob_1, ob_2, ob_3, ob_4, ob_5, ob_6, ob_7, ob_8, ob_9, ob_10, ob_11, ob_12, ob_13, ob_14, ob_15, ob_16, ob_17, ob_18, ob_19, ob_20, ob_21, ob_22, ob_23, ob_24, ob_25, ob_26, ob_27, ob_28, ob_29, ob_30, ob_31, ob_32, ob_33, ob_34, ob_35, ob_36, ob_37, ob_38, ob_39, ob_40, ob_41, ob_42, ob_43, ob_44, ob_45, ob_46, ob_47, ob_48, ob_49, ob_50, ob_51, ob_52, ob_53, ob_54, ob_55, ob_56, ob_57, ob_58, ob_59, ob_60, ob_61, ob_62, ob_63, ob_64, ob_65, jf7, aGi, aGb, aGz, aGj, leT, leF, ltT, ltF, eqT, eqF, tws_0, tws_1, tws_2, tws_3, tws_4, tws_5, tws_6, tws_7, tws_8, tws_9, tws_10, tws_11, tws_12, tws_13, tws_14, tws_15, tws_16, tws_17, tws_18, tws_19, tws_20, tws_21, tws_22, tws_23, tws_24, tws_25, tws_26, tws_27, tws_28, tws_29, tws_30, tws_31, obs_0, obs_2, obs_3, obs_4, obs_5, obs_12, obs_13, obs_14, obs_15, obs_16, obs_17, obs_18, obs_19, obs_20, obs_21, obs_22, obs_26, obs_31, obs_32, obs_33, obs_34, obs_35, obs_41, obs_42, obs_44, obs_48, obs_50, obs_51, obs_52, obs_55, obs_57, obs_58, obs_59, obs_60, obs_61, pF7i, pF7z, pF7j, aSi, aSj, aSb1, aSb24, aSb28, aSb31, ts, tg_eq, tg_ne, tg_tg, fset_eq, fset_ne, hi, e, beq_tt, beq_tf, beq_ft, beq_ff, Bool.true_and, Bool.false_and, Bool.and_true, Bool.and_false, Bool.true_or, Bool.false_or, Bool.or_true, Bool.or_false, Bool.true_eq_false, Bool.false_eq_true, Bool.not_true, Bool.not_false, bZ_t, bZ_f, zI_b0, zI_b1, zI_bb, okZ_0, okZ_1]
  | true =>
    have en := isInZ_t e
    rw [if_pos rfl]
    by_cases z : T 2 0 = 0
    · rw [if_pos z]
      simp (disch := omega) only [jc_ref, rI_int, rR_ref, rR_null, rJ_long, ckR_ref, ckR_null, ckr_ref, ckr_null, ckW_int, ckW_ref, ckW_null, cI_ok, cR_ok, cR_null, cV_ok, cJ_ok, qH_eq, qD_in, aG_ref, aS_ref, aL_ref, pF_ref, cK_ref, cK_null, zI_lit, zJ_lit, zI_add, zI_sub, zI_mul, zI_neg, zI_eq, zI_lt, zI_le, Int.reduceLT, Int.reduceLE, Int.reduceAdd, Int.reduceSub, Int.reduceMul, Int.reduceNeg, Int.reduceEq, Int.reduceNe, reduceIte, tw_0, tw_1, tw_2, tw_3, tw_4, tw_5, tw_6, tw_7, tw_8, tw_9, tw_10, tw_11, tw_12, tw_13, tw_14, tw_15, tw_16, tw_17, tw_18, tw_19, tw_20, tw_21, tw_22, tw_23, tw_24, tw_25, tw_26, tw_27, tw_28, tw_29, tw_30, tw_31, ob_0, ob_1, ob_2, ob_3, ob_4, ob_5, ob_6, ob_7, ob_8, ob_9, ob_10, ob_11, ob_12, ob_13, ob_14, ob_15, ob_16, ob_17, ob_18, ob_19, ob_20, ob_21, ob_22, ob_23, ob_24, ob_25, ob_26, ob_27, ob_28, ob_29, ob_30, ob_31, ob_32, ob_33, ob_34, ob_35, ob_36, ob_37, ob_38, ob_39, ob_40, ob_41, ob_42, ob_43, ob_44, ob_45, ob_46, ob_47, ob_48, ob_49, ob_50, ob_51, ob_52, ob_53, ob_54, ob_55, ob_56, ob_57, ob_58, ob_59, ob_60, ob_61, ob_62, ob_63, ob_64, ob_65, jf7, aGi, aGb, aGz, aGj, leT, leF, ltT, ltF, eqT, eqF, tws_0, tws_1, tws_2, tws_3, tws_4, tws_5, tws_6, tws_7, tws_8, tws_9, tws_10, tws_11, tws_12, tws_13, tws_14, tws_15, tws_16, tws_17, tws_18, tws_19, tws_20, tws_21, tws_22, tws_23, tws_24, tws_25, tws_26, tws_27, tws_28, tws_29, tws_30, tws_31, obs_0, obs_2, obs_3, obs_4, obs_5, obs_12, obs_13, obs_14, obs_15, obs_16, obs_17, obs_18, obs_19, obs_20, obs_21, obs_22, obs_26, obs_31, obs_32, obs_33, obs_34, obs_35, obs_41, obs_42, obs_44, obs_48, obs_50, obs_51, obs_52, obs_55, obs_57, obs_58, obs_59, obs_60, obs_61, pF7i, pF7z, pF7j, aSi, aSj, aSb1, aSb24, aSb28, aSb31, ts, tg_eq, tg_ne, tg_tg, fset_eq, fset_ne, hi, e, beq_tt, beq_tf, beq_ft, beq_ff, Bool.true_and, Bool.false_and, Bool.and_true, Bool.and_false, Bool.true_or, Bool.false_or, Bool.or_true, Bool.or_false, Bool.true_eq_false, Bool.false_eq_true, Bool.not_true, Bool.not_false, bZ_t, bZ_f, zI_b0, zI_b1, zI_bb, okZ_0, okZ_1, z]
    · have I := dnB_I (x := x) W hA h35 z
      have e44 : dnB T x 0 44 = T 0 44 := by
        unfold dnB
        rw [ts_eq, fset_ne (by decide), tg_ne (by decide), ts_eq, fset_ne (by decide)]
      have l := dn_42 (d := d) (m := m) (h := h) (n := n) (x2 := zI x) en.1 en.2 n.toNat 0 0 (dnB T x) I (by rw [e44]; exact ⟨n0, n1⟩) (by omega) (by omega) (by omega)
      rw [if_neg z, ← l]
      unfold dnB
      simp (disch := omega) only [jc_ref, rI_int, rR_ref, rR_null, rJ_long, ckR_ref, ckR_null, ckr_ref, ckr_null, ckW_int, ckW_ref, ckW_null, cI_ok, cR_ok, cR_null, cV_ok, cJ_ok, qH_eq, qD_in, aG_ref, aS_ref, aL_ref, pF_ref, cK_ref, cK_null, zI_lit, zJ_lit, zI_add, zI_sub, zI_mul, zI_neg, zI_eq, zI_lt, zI_le, Int.reduceLT, Int.reduceLE, Int.reduceAdd, Int.reduceSub, Int.reduceMul, Int.reduceNeg, Int.reduceEq, Int.reduceNe, reduceIte, tw_0, tw_1, tw_2, tw_3, tw_4, tw_5, tw_6, tw_7, tw_8, tw_9, tw_10, tw_11, tw_12, tw_13, tw_14, tw_15, tw_16, tw_17, tw_18, tw_19, tw_20, tw_21, tw_22, tw_23, tw_24, tw_25, tw_26, tw_27, tw_28, tw_29, tw_30, tw_31, ob_0, ob_1, ob_2, ob_3, ob_4, ob_5, ob_6, ob_7, ob_8, ob_9, ob_10, ob_11, ob_12, ob_13, ob_14, ob_15, ob_16, ob_17, ob_18, ob_19, ob_20, ob_21, ob_22, ob_23, ob_24, ob_25, ob_26, ob_27, ob_28, ob_29, ob_30, ob_31, ob_32, ob_33, ob_34, ob_35, ob_36, ob_37, ob_38, ob_39, ob_40, ob_41, ob_42, ob_43, ob_44, ob_45, ob_46, ob_47, ob_48, ob_49, ob_50, ob_51, ob_52, ob_53, ob_54, ob_55, ob_56, ob_57, ob_58, ob_59, ob_60, ob_61, ob_62, ob_63, ob_64, ob_65, jf7, aGi, aGb, aGz, aGj, leT, leF, ltT, ltF, eqT, eqF, tws_0, tws_1, tws_2, tws_3, tws_4, tws_5, tws_6, tws_7, tws_8, tws_9, tws_10, tws_11, tws_12, tws_13, tws_14, tws_15, tws_16, tws_17, tws_18, tws_19, tws_20, tws_21, tws_22, tws_23, tws_24, tws_25, tws_26, tws_27, tws_28, tws_29, tws_30, tws_31, obs_0, obs_2, obs_3, obs_4, obs_5, obs_12, obs_13, obs_14, obs_15, obs_16, obs_17, obs_18, obs_19, obs_20, obs_21, obs_22, obs_26, obs_31, obs_32, obs_33, obs_34, obs_35, obs_41, obs_42, obs_44, obs_48, obs_50, obs_51, obs_52, obs_55, obs_57, obs_58, obs_59, obs_60, obs_61, pF7i, pF7z, pF7j, aSi, aSj, aSb1, aSb24, aSb28, aSb31, ts, tg_eq, tg_ne, tg_tg, fset_eq, fset_ne, hi, e, beq_tt, beq_tf, beq_ft, beq_ff, Bool.true_and, Bool.false_and, Bool.and_true, Bool.and_false, Bool.true_or, Bool.false_or, Bool.or_true, Bool.or_false, Bool.true_eq_false, Bool.false_eq_true, Bool.not_true, Bool.not_false, bZ_t, bZ_f, zI_b0, zI_b1, zI_bb, okZ_0, okZ_1, z, tr]
end
