/-! the face: pieces that a call moves; stores that become as others -/
-- jc_ref, rI_int, rR_ref, rR_null, rJ_long, ckR_ref, ckR_null, ckr_ref, ckr_null, ckW_int, ckW_ref, ckW_null, cI_ok, cR_ok, cR_null, cV_ok, cJ_ok, qH_eq, qD_in, aG_ref, aS_ref, aL_ref, pF_ref, cK_ref, cK_null, zI_lit, zJ_lit, zI_add, zI_sub, zI_mul, zI_neg, zI_eq, zI_lt, zI_le, Int.reduceLT, Int.reduceLE, Int.reduceAdd, Int.reduceSub, Int.reduceMul, Int.reduceNeg, Int.reduceEq, Int.reduceNe, reduceIte, jf_in, pFc_in, aGi, aGb, aSi, aLc_in, cKc_in, nA_in, jm_s1, jm_s2, jm_p1, jm_p2, jm_b, jn_b, jn_s, jn_p, jset_jset, jset_jpush2, ckR_is, ckr_is, rR_is, ckW_is, cR_is, obi2, ckW_int, eq_self, if_true, ref_null, if_false, ne_eq, not_true_eq_false, not_false_eq_true, decide_true, decide_false, decide_not, Bool.true_and, Bool.false_and, Bool.and_true, Bool.and_false, Bool.true_or, Bool.false_or, Bool.or_true, Bool.or_false, Bool.not_true, Bool.not_false, Bool.false_eq_true, bI_t, bI_f, Int.natCast_one, Int.cast_ofNat_Int, Int.natCast_zero, o2_0, o2_1, o2_2, o2_3, o2_4, o2_5, o2_6, o2_7, o2_8, o2_9, o2_10, o2_11, o2_12, o2_13, o2_14, o2_15, o2_16, o2_17, n2, o2s_0, o2s_1, o2s_2, o2s_3, o2s_4, o2s_5, o2s_6, o2s_7, o2s_8, o2s_9, o2s_10, o2s_11, o2s_12, o2s_13, o2s_14, o2s_15, o2s_16, o2s_17, o23_0, o23_1, o23_2, n23, o23s_0, o23s_1, o23s_2, o4_0, o4_1, o4_2, o4_3, o4_4, o4_5, o4_6, n4, o4s_0, o4s_1, o4s_2, o4s_3, o4s_4, o4s_5, o4s_6, o24_0, o24_1, o24_2, o24_3, o26_0, o28_0, o22_0, o22_1, o22_2, o22_3, o22_4, o22_5, o47_0, o47_1, o47_2, o47_3, n47, o47s_0, o47s_1, o47s_2, o47s_3, o3_0, o3_1, o3_2, o3_3, o3_4, o12_0, o12_1, o13_0, o13_1, o13_2, o13_3, o13_4, o13_5, o13_6, o14_0, o14_1, o14_2, o14_3, o14_4, o14_5, o11_0, o11_1, o11_2, o11_3, o5_0, o5_1, o5_2, o5_3, o5_4, o5_5, o6_0, o6_1, o6_2, n6, o6s_0, o6s_1, o6s_2 = jc_ref, rI_int, rR_ref, rR_null, rJ_long, ckR_ref, ckR_null, ckr_ref, ckr_null, ckW_int, ckW_ref, ckW_null, cI_ok, cR_ok, cR_null, cV_ok, cJ_ok, qH_eq, qD_in, aG_ref, aS_ref, aL_ref, pF_ref, cK_ref, cK_null, zI_lit, zJ_lit, zI_add, zI_sub, zI_mul, zI_neg, zI_eq, zI_lt, zI_le, Int.reduceLT, Int.reduceLE, Int.reduceAdd, Int.reduceSub, Int.reduceMul, Int.reduceNeg, Int.reduceEq, Int.reduceNe, reduceIte, jf_in, pFc_in, aGi, aGb, aSi, aLc_in, cKc_in, nA_in, jm_s1, jm_s2, jm_p1, jm_p2, jm_b, jn_b, jn_s, jn_p, jset_jset, jset_jpush2, ckR_is, ckr_is, rR_is, ckW_is, cR_is, obi2, ckW_int, eq_self, if_true, ref_null, if_false, ne_eq, not_true_eq_false, not_false_eq_true, decide_true, decide_false, decide_not, Bool.true_and, Bool.false_and, Bool.and_true, Bool.and_false, Bool.true_or, Bool.false_or, Bool.or_true, Bool.or_false, Bool.not_true, Bool.not_false, Bool.false_eq_true, bI_t, bI_f, Int.natCast_one, Int.cast_ofNat_Int, Int.natCast_zero, o2_0, o2_1, o2_2, o2_3, o2_4, o2_5, o2_6, o2_7, o2_8, o2_9, o2_10, o2_11, o2_12, o2_13, o2_14, o2_15, o2_16, o2_17, n2, o2s_0, o2s_1, o2s_2, o2s_3, o2s_4, o2s_5, o2s_6, o2s_7, o2s_8, o2s_9, o2s_10, o2s_11, o2s_12, o2s_13, o2s_14, o2s_15, o2s_16, o2s_17, o23_0, o23_1, o23_2, n23, o23s_0, o23s_1, o23s_2, o4_0, o4_1, o4_2, o4_3, o4_4, o4_5, o4_6, n4, o4s_0, o4s_1, o4s_2, o4s_3, o4s_4, o4s_5, o4s_6, o24_0, o24_1, o24_2, o24_3, o26_0, o28_0, o22_0, o22_1, o22_2, o22_3, o22_4, o22_5, o47_0, o47_1, o47_2, o47_3, n47, o47s_0, o47s_1, o47s_2, o47s_3, o3_0, o3_1, o3_2, o3_3, o3_4, o12_0, o12_1, o13_0, o13_1, o13_2, o13_3, o13_4, o13_5, o13_6, o14_0, o14_1, o14_2, o14_3, o14_4, o14_5, o11_0, o11_1, o11_2, o11_3, o5_0, o5_1, o5_2, o5_3, o5_4, o5_5, o6_0, o6_1, o6_2, n6, o6s_0, o6s_1, o6s_2
/-- all but the object, the tape, what is tried, what is now, what can be brought back -/
def FaceP (x : Nat) (H : AH) (T : Nat → Int → Int) (sc : Nat) (sen ver : Value) (vl tq : Nat) : Prop := EnvS (Fz (FcW x) H) (je H) ∧ IntF (Fz (FcW x) H) (je H) ∧ SchF (Fz (FcW x) H) sc (T 2) (T 6) ∧ PlI x H T ∧ SenI (Fz (FcW x) H) sen (T 2) (T 6) ∧ VdI (Fz (FcW x) H) T ver ∧ VlI (Fz (FcW x) H) T vl ∧ OrI (Fz (FcW x) H) x H T ∧ TgI (Fz (FcW x) H) T tq ∧ ToI x H T ∧ (∃ fk, Fz (FcW x) H (x + 39) = some (1060, 2, fk) ∧ fk 0 = .ref (x + 40) ∧ fk 1 = .ref (x + 50)) ∧ KpI x H T 0 ∧ KpI x H T 1
def TwE2 (T T' : Nat → Int → Int) : Prop := (∀ k, ((15 ≤ k ∧ k ≤ 19) ∨ k = 22 ∨ k = 24 ∨ k = 25 ∨ (29 ≤ k ∧ k ≤ 31)) → T' k = T k) ∧ (∀ i : Int, (i = 41 ∨ i = 42 ∨ i = 48 ∨ i = 50 ∨ i = 55) → T' 0 i = T 0 i) ∧ (∀ i, (i < 148 ∨ 1239 ≤ i) → T' 2 i = T 2 i) ∧ ∀ i, 0 ≤ i → i < 20 → T' 6 i = T 6 i
section
variable {d : Nat} {H H2 : AH} {x a b q vl tq sc : Nat} {P B : Nat → Prop} {T T' : Nat → Int → Int} {S nm : Int → Int} {sen ver : Value}
theorem FaceQ.p : FaceQ x H T sc sen ver vl tq ↔ FaceP x H T sc sen ver vl tq ∧ StR (FcW x) H (x + 7) sc (T 2) ∧ BeI x H T sc :=
  ⟨fun ⟨h1, h2, h3, h4, h5, h6, h7, h8, h9, h10, h11, h12, h13, h15, h16⟩ => ⟨⟨h1, h2, h3, h5, h6, h8, h9, h10, h11, h12, h13, h15, h16⟩, h4, h7⟩, fun ⟨⟨h1, h2, h3, h5, h6, h8, h9, h10, h11, h12, h13, h15, h16⟩, h4, h7⟩ => ⟨h1, h2, h3, h4, h5, h6, h7, h8, h9, h10, h11, h12, h13, h15, h16⟩⟩
theorem FaceP.fr (h : FaceP x H T sc sen ver vl tq) (fr : Fr H H2 P) (hP : ∀ z, P z → FcW x z ∧ ¬ PlP (x + 25) z ∧ z ≠ x + 37 ∧ z ≠ x + 38 ∧ z ≠ x + 40 ∧ ¬ StP (x + 41) z ∧ z ≠ x + 50 ∧ ¬ StP (x + 51) z) (hx : x + 132 ≤ H.1) : FaceP x H2 T sc sen ver vl tq := by
  obtain ⟨h1, h2, h3, h5, h6, h8, h9, h10, h11, h12, ⟨fk, h13, h14⟩, h15, h16⟩ := h
  have hB : ∀ z, P z → FcW x z := fun z hz => (hP z hz).1
  have sb := bf_sub (x := x) fr hB
  exact ⟨by rw [fr.2.1]; exact h1.sub sb, by rw [fr.2.1]; exact h2.sub sb, h3.sub sb, h5.fr fr (fun z hz hp => (hP z hp).2.1 hz), h6.sub sb, h8.sub sb, h9.sub sb, h10.fr sb (fr.2.2 _ (by omega) fun hp => (hP _ hp).2.2.1 rfl), h11.sub sb, h12.fr (fr.2.2 _ (by omega) fun hp => (hP _ hp).2.2.2.1 rfl), ⟨fk, sb _ _ h13, h14⟩, h15.fr fr hB (fun hp => (hP _ hp).2.2.2.2.1 rfl) (fun z hz hp => (hP z hp).2.2.2.2.2.1 hz) hx (by omega), h16.fr fr hB (fun hp => (hP _ hp).2.2.2.2.2.2.1 rfl) (fun z hz hp => (hP z hp).2.2.2.2.2.2.2 hz) hx (by omega)⟩
theorem FaceP.tw (h : FaceP x H T sc sen ver vl tq) (W : StW (T 2)) (e : TwE2 T T') : FaceP x H T' sc sen ver vl tq := by
  obtain ⟨h1, h2, h3, h5, h6, h8, h9, h10, h11, h12, h13, h15, h16⟩ := h
  obtain ⟨e1, e2, e4, e3⟩ := e
  have N := W.n0
  have k29 : ∀ k, kpS T' k = kpS T k := fun k => by funext i; unfold kpS; rw [e1 29 (by omega)]
  have k30 : ∀ k, kpN T' k = kpN T k := fun k => by funext i; unfold kpN; rw [e1 30 (by omega)]
  refine ⟨h1, h2, (h3.cg W fun i i0 i1 => e4 i (by omega)).cgn (by rw [e4 0 (by omega)]; exact N.1.2) (fun t t0 t1 => by rw [e4 _ (by omega)]; exact (W.co t0 t1).2) e3, ?_, ?_, ?_, ?_, ?_, ?_, ?_, h13, ?_, ?_⟩
  · unfold PlI; rw [e2 42 (by omega), e1 16 (by omega)]; exact h5
  · refine (h6.cgn W.sc e3).cg W.sc (fun i i0 i1 => e4 i (by omega)) (fun i i0 => e4 i (by omega))
  · unfold VdI; rw [e2 42 (by omega), e1 15 (by omega)]; exact h8
  · unfold VlI; rw [e2 41 (by omega), e1 17 (by omega), e1 18 (by omega), e1 19 (by omega)]; exact h9
  · unfold OrI; rw [e2 48 (by omega), e1 22 (by omega)]; exact h10
  · unfold TgI; rw [e2 50 (by omega), e1 24 (by omega)]; exact h11
  · unfold ToI; rw [e2 55 (by omega), e1 25 (by omega)]; exact h12
  · unfold KpI; rw [e1 31 (by omega), k29, k30]; exact h15
  · unfold KpI; rw [e1 31 (by omega), k29, k30]; exact h16
theorem StW.cgs {S S' : Int → Int} (W : StW S) (e : ∀ i, i < 1239 → S' i = S i) : StW S' := by
  obtain ⟨w1, w2, w3, w4, w5, w6, w7, w8⟩ := W
  have c1 : cntA S' 150 99 0 = cntA S 150 99 0 := cntA_sh 99 0 fun i i0 i1 => e _ (by omega)
  have c2 : cntA S' 744 99 0 = cntA S 744 99 0 := cntA_sh 99 0 fun i i0 i1 => e _ (by omega)
  refine ⟨w1.cg fun i i1 => e i (by omega), fun r r0 r1 => ?_, fun i i0 i1 => by rw [e i (by omega)]; exact w3 i i0 i1, fun i i0 i1 => by rw [e i (by omega)]; exact w4 i i0 i1, by rw [e 148 (by omega)]; exact w5, by rw [e 149 (by omega)]; exact w6, by rw [c1]; exact w7, by rw [c2]; exact w8⟩
  obtain ⟨⟨a1, a2⟩, ⟨a3, a4⟩, a5, a6⟩ := w2 r r0 r1
  refine ⟨⟨by rw [e _ (by omega)]; exact a1, fun h => ?_⟩, ⟨by rw [e _ (by omega)]; exact a3, fun h => ?_⟩, by rw [e _ (by omega)]; exact a5, by rw [e _ (by omega)]; exact a6⟩
  · rw [e _ (by omega)] at h
    obtain ⟨b1, b2, b3⟩ := a2 h
    rw [e (249 + r) (by omega), e 0 (by omega), e 148 (by omega)]
    refine ⟨b1, b2, fun c c0 c1 => ?_⟩
    rw [e (4 + S (249 + r)) (by omega)] at c0
    by_cases cn : 0 ≤ c
    · rw [e _ (by omega)]; exact b3 c c0 c1
    · exfalso
      have := w1.1.2.2.1 (S (249 + r)) a5 a6
      omega
  · rw [e _ (by omega)] at h
    obtain ⟨b1, b2, b3⟩ := a4 h
    rw [e (249 + r) (by omega), e 0 (by omega), e 148 (by omega)]
    refine ⟨b1, b2, fun c c0 c1 => ?_⟩
    rw [e (4 + S (249 + r)) (by omega)] at c0
    by_cases cn : 0 ≤ c
    · rw [e _ (by omega)]; exact b3 c c0 c1
    · exfalso
      have := w1.1.2.2.1 (S (249 + r)) a5 a6
      omega
/-- a store becomes as another one -/
theorem st_as (hBa : ∀ z, StP a z → B z) (hA : StG H a) (hR : StR B H b q S) (W : StW S) (hab : a + 8 < b ∨ b + 8 < a) : ∃ H2, M2 (d + 3) 4000 [.ref a, .ref b] H = some (.inl (some (.ref a)), H2) ∧ StR B H2 a q S ∧ Fr H H2 (fun z => StP a z) ∧ H2.1 = H.1 ∧ H2.2.1 = H.2.1 := by
  obtain ⟨v, ins, on, l1, l2, l3, wl, bs, h⟩ := hA
  obtain ⟨k1, k2, k3, wm, bt, ra, rb, r1, r2, r3⟩ := hR
  have le1 := rows_le (n := 0) r2 (rw1 W).1 (rw1 W).2
  have le2 := rows_le (n := 0) r3 (rw2 W).1 (rw2 W).2
  obtain ⟨H2, e1, e2, e3, e4, e5⟩ := c_as (d := d) h r1 W.2.2.2.2.2.1 hab (RwL.of r2 Fz_F le1) (RwL.of r3 Fz_F le2)
  have fr : Fr H H2 (fun z => StP a z) := e3.mono fun z _ h => by unfold StP; omega
  have sb : Sub (Fz B H) (Fz B H2) := Fz_sub fr fun z _ h => hBa z h
  exact ⟨H2, e1, ⟨k1, k2, l3, wl, bs, ra, rb, e2, r2.sub sb, r3.sub sb⟩, fr, e4, e5⟩
/-- the parts of what the face writes -/
theorem FcW.now {z : Nat} (h : StP (x + 7) z) : FcW x z := Or.inr (Or.inr (Or.inl h))
theorem FcW.tri {z : Nat} (h : StP (x + 16) z) : FcW x z := Or.inr (Or.inr (Or.inr (Or.inl h)))
theorem FcW.pla {z : Nat} (h : PlP (x + 25) z) : FcW x z := Or.inr (Or.inr (Or.inr (Or.inr (Or.inl h))))
theorem FcW.sid {z : Nat} (h : PlP (x + 30) z) : FcW x z := Or.inr (Or.inr (Or.inr (Or.inr (Or.inr (Or.inl h)))))
theorem FcW.bef {z k : Nat} (hk : k < 8) (h : StP (x + 60 + 9 * k) z) : FcW x z := Or.inr (Or.inr (Or.inr (Or.inr (Or.inr (Or.inr (Or.inr (Or.inr (Or.inr (Or.inr (Or.inr (Or.inr (Or.inr ⟨k, hk, h⟩))))))))))))
theorem FcW.obj : FcW x x := Or.inl rfl
end
