/-! the component's reader goes on by a token -/
-- jc_ref, rI_int, rR_ref, rR_null, rJ_long, ckR_ref, ckR_null, ckr_ref, ckr_null, ckW_int, ckW_ref, ckW_null, cI_ok, cR_ok, cR_null, cV_ok, cJ_ok, qH_eq, qD_in, aG_ref, aS_ref, aL_ref, pF_ref, cK_ref, cK_null, zI_lit, zJ_lit, zI_add, zI_sub, zI_mul, zI_neg, zI_eq, zI_lt, zI_le, Int.reduceLT, Int.reduceLE, Int.reduceAdd, Int.reduceSub, Int.reduceMul, Int.reduceNeg, Int.reduceEq, Int.reduceNe, reduceIte, jf_in, pFc_in, aGi, aGb, aSi, aLc_in, cKc_in, nA_in, jm_s1, jm_s2, jm_p1, jm_p2, jm_b, jn_b, jn_s, jn_p, jset_jset, jset_jpush2, ckR_is, ckr_is, rR_is, ckW_is, cR_is, obi2, ckW_int, eq_self, if_true, ref_null, if_false, ne_eq, not_true_eq_false, not_false_eq_true, decide_true, decide_false, decide_not, Bool.true_and, Bool.false_and, Bool.and_true, Bool.and_false, Bool.true_or, Bool.false_or, Bool.or_true, Bool.or_false, Bool.not_true, Bool.not_false, Bool.false_eq_true, bI_t, bI_f, Int.natCast_one, Int.cast_ofNat_Int, Int.natCast_zero, ju_self, ju_ne = jc_ref, rI_int, rR_ref, rR_null, rJ_long, ckR_ref, ckR_null, ckr_ref, ckr_null, ckW_int, ckW_ref, ckW_null, cI_ok, cR_ok, cR_null, cV_ok, cJ_ok, qH_eq, qD_in, aG_ref, aS_ref, aL_ref, pF_ref, cK_ref, cK_null, zI_lit, zJ_lit, zI_add, zI_sub, zI_mul, zI_neg, zI_eq, zI_lt, zI_le, Int.reduceLT, Int.reduceLE, Int.reduceAdd, Int.reduceSub, Int.reduceMul, Int.reduceNeg, Int.reduceEq, Int.reduceNe, reduceIte, jf_in, pFc_in, aGi, aGb, aSi, aLc_in, cKc_in, nA_in, jm_s1, jm_s2, jm_p1, jm_p2, jm_b, jn_b, jn_s, jn_p, jset_jset, jset_jpush2, ckR_is, ckr_is, rR_is, ckW_is, cR_is, obi2, ckW_int, eq_self, if_true, ref_null, if_false, ne_eq, not_true_eq_false, not_false_eq_true, decide_true, decide_false, decide_not, Bool.true_and, Bool.false_and, Bool.and_true, Bool.and_false, Bool.true_or, Bool.false_or, Bool.or_true, Bool.or_false, Bool.not_true, Bool.not_false, Bool.false_eq_true, bI_t, bI_f, Int.natCast_one, Int.cast_ofNat_Int, Int.natCast_zero, ju_self, ju_ne
/-- a reader that has the token read from q on; x, y: its own fields -/
def RdT (B : Nat → Prop) (H : AH) (a t n tp sc : Nat) (g : Int → Int) (z l : Int) (x y : Value) (q : Int) : Prop := ∃ f, RdO H a t n f tp sc z l (nxt g z l q) ∧ TkO (Fz B H) f g z l q ∧ f 10 = x ∧ f 11 = y ∧ (0 ≤ q ∧ q ≤ z) ∧ a < H.1
section
variable {d : Nat} {H H2 : AH} {a t n tp sc sb : Nat} {f : Nat → Value} {g : Int → Int} {z l p q : Int} {F : Nat → Option Cl} {B P : Nat → Prop} {x y : Value}
theorem TkO.sub {F G : Nat → Option Cl} (h : TkO F f g z l q) (s : Sub F G) : TkO G f g z l q := by
  obtain ⟨a1, a2, a3, a4, a5, w, w1, w2⟩ := h
  exact ⟨a1, a2, a3, a4, a5, w, w1, fun k => by obtain ⟨s', x1, x2⟩ := w2 k; exact ⟨s', x1.sub s, x2⟩⟩
theorem RdT.fr (h : RdT B H a t n tp sc g z l x y q) (fr : Fr H H2 P) (hP : ∀ z, z < H.1 → P z → B z) (hn : ¬ P a) : RdT B H2 a t n tp sc g z l x y q := by
  obtain ⟨f, h1, h2, h3, h4, h5, h6⟩ := h
  exact ⟨f, h1.up ((fr.2.2 a h6 hn).trans h1.1) rfl rfl rfl h1.2.2.2.2.2.1 rfl, h2.sub (Fz_sub fr hP), h3, h4, h5, Nat.lt_of_lt_of_le h6 fr.1⟩
theorem RdK.fr {E : Nat → Value} (h : RdK (Fz B H) E tp g z l) (fr : Fr H H2 P) (hP : ∀ z, z < H.1 → P z → B z) : RdK (Fz B H2) E tp g z l := h.sub (Fz_sub fr hP)
theorem wdB_mem : ∀ (k : Nat) (p : Int) (c : Bool), allF g z c k p = true → ∀ u ∈ wdB g z k p, small u = c
  | 0, _, _, _, _, hu => by cases hu
  | k + 1, p, c, h, u, hu => by
    simp only [allF, Bool.and_eq_true, beq_iff_eq] at h
    rcases List.mem_cons.mp hu with rfl | hu
    · exact h.1
    · exact wdB_mem k (p + 1) c h.2 u hu
theorem allF_le : ∀ (k m : Nat) (p : Int) (c : Bool), k ≤ m → allF g z c m p = true → allF g z c k p = true
  | 0, _, _, _, _, _ => rfl
  | k + 1, 0, _, _, h, _ => by omega
  | k + 1, m + 1, p, c, h, ha => by
    simp only [allF, Bool.and_eq_true] at ha ⊢
    exact ⟨ha.1, allF_le k m (p + 1) c (by omega) ha.2⟩
theorem small_rg {c : Int} (h : small c = true) : 97 ≤ c ∧ c ≤ 122 := by simpa [small] using h
theorem c_go (K : RdK (Fz B H) (je H) tp g z l) (ha : B a) (hB : ∀ z, B z → z < H.1) (h : RdO H a t n f tp sc z l p) (h7 : ∃ x : Int32, f 7 = .int x) (h9 : ∃ w, f 9 = .ref w) (p0 : 0 ≤ p) (p1 : p ≤ z) :
    ∃ H2, M2 (d + 2) 8004 [.ref a] H = some (.inl none, H2) ∧ Fr H H2 (fun q => q = a) ∧ H2.1 ≤ H.1 + 4 ∧ H2.2.1 ≤ H.2.1 + 31 ∧ RdT B H2 a t n tp sc g z l (f 10) (f 11) p := by
  have al := hB a ha
  have Fa : Fz B H a = none := Fz_out ha
  have kz := K.2.2.1
  have kl := K.2.2.2.1
  obtain ⟨t1, t2⟩ := h.tg
  have rv : (jtRecv 8004).elem t = true := by rcases h.2.1 with e | e | e | e <;> subst e <;> rfl
  have s0 := sk_le_self (g := g) (z := z) (p := p)
  have s1 := sk_le (g := g) p1
  have g0 := go_0 (d := d) K Fa (z - p).toNat H f p Fz_F h p0 p1 (Nat.le_refl _)
  obtain ⟨sg, hsg⟩ : ∃ sg, sg = sk g z p := ⟨_, rfl⟩
  rw [← hsg] at g0 s0 s1
  -- from is set
  have hf1 : ∃ f1, f1 = ju (ju f 3 (.int (zI sg))) 6 (.int (zI sg)) := ⟨_, rfl⟩
  obtain ⟨f1, hf1⟩ := hf1
  have q0 : f1 0 = f 0 := by rw [hf1]; exact (ju_ne (by decide)).trans (ju_ne (by decide))
  have q1 : f1 1 = f 1 := by rw [hf1]; exact (ju_ne (by decide)).trans (ju_ne (by decide))
  have q2 : f1 2 = f 2 := by rw [hf1]; exact (ju_ne (by decide)).trans (ju_ne (by decide))
  have q3 : f1 3 = .int (zI sg) := by rw [hf1]; exact (ju_ne (by decide)).trans ju_self
  have q4 : f1 4 = f 4 := by rw [hf1]; exact (ju_ne (by decide)).trans (ju_ne (by decide))
  have q6 : f1 6 = .int (zI sg) := by rw [hf1]; exact ju_self
  have q7 : f1 7 = f 7 := by rw [hf1]; exact (ju_ne (by decide)).trans (ju_ne (by decide))
  have q9 : f1 9 = f 9 := by rw [hf1]; exact (ju_ne (by decide)).trans (ju_ne (by decide))
  have q10 : f1 10 = f 10 := by rw [hf1]; exact (ju_ne (by decide)).trans (ju_ne (by decide))
  have q11 : f1 11 = f 11 := by rw [hf1]; exact (ju_ne (by decide)).trans (ju_ne (by decide))
  obtain ⟨H1, hH1⟩ : ∃ H1, H1 = jset H a (t, n, f1) := ⟨_, rfl⟩
  have m1 : jm H1 a = some (t, n, f1) := by rw [hH1]; exact jm_s1
  have h1 : RdO H1 a t n f1 tp sc z l sg := h.up m1 q0 q1 q2 q3 q4
  have fr1 : Fr H H1 (fun q => q = a) := by rw [hH1]; exact Fr.set rfl
  have n1 : H1.1 = H.1 ∧ H1.2.1 = H.2.1 := by rw [hH1]; exact ⟨rfl, rfl⟩
  have hF1 : Fzn (Fz B H) H1 := Fz_F.fr fr1 fun q e => by rw [e]; exact Fa
  obtain ⟨-, ht, e0, e1, e2, e3, e4⟩ := id h1
  have g50 : ∀ X : Rz, (more g z l p = true → some (.inl none, jset H1 a (t, n, ju (ju f1 6 (.int (zI l))) 5 (.int (zI 5)))) = X) → (more g z l p = false → G2 (d + 1) 8004 94 [.ref a, jno, jno, jno, jno] [] H1 = X) → M2 (d + 2) 8004 [.ref a] H = X := by
    intro X x1 x2
    rw [Y8004 H (jrecv_in h.1 rv), g0, F8004_50]
    have ms : jm (jset H a (t, n, ju f 3 (.int (zI sg)))) a = some (t, n, ju f 3 (.int (zI sg))) := jm_s1
    have u1 : ju f 3 (.int (zI sg)) 1 = .int (zI z) := (ju_ne (by decide)).trans h.2.2.2.1
    have u2 : ju f 3 (.int (zI sg)) 2 = .int (zI l) := (ju_ne (by decide)).trans h.2.2.2.2.1
    have u3 : ju f 3 (.int (zI sg)) 3 = .int (zI sg) := ju_self
    have w1 : ju (ju f 3 (.int (zI sg))) 6 (.int (zI sg)) = f1 := hf1.symm
    have mo : more g z l p = decide (l < z ∧ l ≤ sg) := by unfold more; rw [← hsg]
    by_cases c1 : z ≤ l
    · have b : more g z l p = false := by rw [mo]; exact decide_eq_false (by omega)
      rw [← x2 b]
      simp (disch := first | assumption | omega | decide | exact okF_i | exact okF_r | exact okF_n | exact okF_j | rfl) only [jc_ref, rI_int, rR_ref, rR_null, rJ_long, ckR_ref, ckR_null, ckr_ref, ckr_null, ckW_int, ckW_ref, ckW_null, cI_ok, cR_ok, cR_null, cV_ok, cJ_ok, qH_eq, qD_in, aG_ref, aS_ref, aL_ref, pF_ref, cK_ref, cK_null, zI_lit, zJ_lit, zI_add, zI_sub, zI_mul, zI_neg, zI_eq, zI_lt, zI_le, Int.reduceLT, Int.reduceLE, Int.reduceAdd, Int.reduceSub, Int.reduceMul, Int.reduceNeg, Int.reduceEq, Int.reduceNe, reduceIte, jf_in, pFc_in, aGi, aGb, aSi, aLc_in, cKc_in, nA_in, jm_s1, jm_s2, jm_p1, jm_p2, jm_b, jn_b, jn_s, jn_p, jset_jset, jset_jpush2, ckR_is, ckr_is, rR_is, ckW_is, cR_is, obi2, ckW_int, eq_self, if_true, ref_null, if_false, ne_eq, not_true_eq_false, not_false_eq_true, decide_true, decide_false, decide_not, Bool.true_and, Bool.false_and, Bool.and_true, Bool.and_false, Bool.true_or, Bool.false_or, Bool.or_true, Bool.or_false, Bool.not_true, Bool.not_false, Bool.false_eq_true, bI_t, bI_f, Int.natCast_one, Int.cast_ofNat_Int, Int.natCast_zero, ms, u3, w1, ← hH1, m1, e1, e2]
      try rw [if_pos c1]
    · by_cases c2 : sg < l
      · have b : more g z l p = false := by rw [mo]; exact decide_eq_false (by omega)
        rw [← x2 b]
        simp (disch := first | assumption | omega | decide | exact okF_i | exact okF_r | exact okF_n | exact okF_j | rfl) only [jc_ref, rI_int, rR_ref, rR_null, rJ_long, ckR_ref, ckR_null, ckr_ref, ckr_null, ckW_int, ckW_ref, ckW_null, cI_ok, cR_ok, cR_null, cV_ok, cJ_ok, qH_eq, qD_in, aG_ref, aS_ref, aL_ref, pF_ref, cK_ref, cK_null, zI_lit, zJ_lit, zI_add, zI_sub, zI_mul, zI_neg, zI_eq, zI_lt, zI_le, Int.reduceLT, Int.reduceLE, Int.reduceAdd, Int.reduceSub, Int.reduceMul, Int.reduceNeg, Int.reduceEq, Int.reduceNe, reduceIte, jf_in, pFc_in, aGi, aGb, aSi, aLc_in, cKc_in, nA_in, jm_s1, jm_s2, jm_p1, jm_p2, jm_b, jn_b, jn_s, jn_p, jset_jset, jset_jpush2, ckR_is, ckr_is, rR_is, ckW_is, cR_is, obi2, ckW_int, eq_self, if_true, ref_null, if_false, ne_eq, not_true_eq_false, not_false_eq_true, decide_true, decide_false, decide_not, Bool.true_and, Bool.false_and, Bool.and_true, Bool.and_false, Bool.true_or, Bool.false_or, Bool.or_true, Bool.or_false, Bool.not_true, Bool.not_false, Bool.false_eq_true, bI_t, bI_f, Int.natCast_one, Int.cast_ofNat_Int, Int.natCast_zero, ms, u3, w1, ← hH1, m1, e1, e2, q6]
        try rw [if_neg c1, if_pos c2]
      · have b : more g z l p = true := by rw [mo]; exact decide_eq_true (by omega)
        rw [← x1 b]
        simp (disch := first | assumption | omega | decide | exact okF_i | exact okF_r | exact okF_n | exact okF_j | rfl) only [jc_ref, rI_int, rR_ref, rR_null, rJ_long, ckR_ref, ckR_null, ckr_ref, ckr_null, ckW_int, ckW_ref, ckW_null, cI_ok, cR_ok, cR_null, cV_ok, cJ_ok, qH_eq, qD_in, aG_ref, aS_ref, aL_ref, pF_ref, cK_ref, cK_null, zI_lit, zJ_lit, zI_add, zI_sub, zI_mul, zI_neg, zI_eq, zI_lt, zI_le, Int.reduceLT, Int.reduceLE, Int.reduceAdd, Int.reduceSub, Int.reduceMul, Int.reduceNeg, Int.reduceEq, Int.reduceNe, reduceIte, jf_in, pFc_in, aGi, aGb, aSi, aLc_in, cKc_in, nA_in, jm_s1, jm_s2, jm_p1, jm_p2, jm_b, jn_b, jn_s, jn_p, jset_jset, jset_jpush2, ckR_is, ckr_is, rR_is, ckW_is, cR_is, obi2, ckW_int, eq_self, if_true, ref_null, if_false, ne_eq, not_true_eq_false, not_false_eq_true, decide_true, decide_false, decide_not, Bool.true_and, Bool.false_and, Bool.and_true, Bool.and_false, Bool.true_or, Bool.false_or, Bool.or_true, Bool.or_false, Bool.not_true, Bool.not_false, Bool.false_eq_true, bI_t, bI_f, Int.natCast_one, Int.cast_ofNat_Int, Int.natCast_zero, ms, u3, w1, ← hH1, m1, e1, e2, q6]
        try rw [if_neg c1, if_neg c2]
  cases hm : more g z l p with
  | true =>
    have kd4 : kd g z l p = 4 := by unfold kd; rw [if_pos hm]
    have pl : plc g z l p = l := by unfold plc; rw [if_pos hm]
    have nx : nxt g z l p = sg := by unfold nxt; rw [if_pos hm, hsg]
    have ck : ckd g z l p = 5 := by unfold ckd; rw [kd4, if_neg (by decide), if_neg (by decide), if_neg (by decide), if_neg (by decide), if_pos hm]
    refine ⟨_, g50 _ (fun _ => rfl) (fun x => by rw [hm] at x; cases x), fr1.tr (Fr.set rfl), by show H1.1 ≤ _; omega, by show H1.2.1 ≤ _; omega, ju (ju f1 6 (.int (zI l))) 5 (.int (zI 5)), ?_, ?_, ?_, ?_, ⟨p0, p1⟩, by show a < H1.1; omega⟩
    · rw [nx]
      exact h1.up jm_s1 ((ju_ne (by decide)).trans (ju_ne (by decide))) ((ju_ne (by decide)).trans (ju_ne (by decide))) ((ju_ne (by decide)).trans (ju_ne (by decide))) (((ju_ne (by decide)).trans (ju_ne (by decide))).trans e3) ((ju_ne (by decide)).trans (ju_ne (by decide)))
    · refine ⟨by rw [ju_self, ck], by rw [ju_ne (by decide), ju_self, pl], ?_, fun k => by omega, fun k => by omega, ?_⟩
      · obtain ⟨v, hv⟩ := h7
        exact ⟨v, ((ju_ne (by decide)).trans (ju_ne (by decide))).trans (q7.trans hv)⟩
      · obtain ⟨w, hw⟩ := h9
        exact ⟨w, ((ju_ne (by decide)).trans (ju_ne (by decide))).trans (q9.trans hw), fun k => by omega⟩
    · exact ((ju_ne (by decide)).trans (ju_ne (by decide))).trans q10
    · exact ((ju_ne (by decide)).trans (ju_ne (by decide))).trans q11
  | false =>
    have pl : plc g z l p = sg := by unfold plc; rw [hm, if_neg (by decide), hsg]
    have g94 := g50 (G2 (d + 1) 8004 94 [.ref a, jno, jno, jno, jno] [] H1) (fun x => by rw [hm] at x; cases x) (fun _ => rfl)
    have cA : cAt g z p = tpk g z sg := by unfold cAt; rw [hsg]
    by_cases c : sg < z
    · have by_ := c_byteAt (d := d) K hF1 h1 (p := sg) (by omega) (by omega)
      rw [bya_in c] at by_
      have tp0 : 0 ≤ tpk g z sg ∧ tpk g z sg < 256 := by rw [tpk_lt c]; omega
      have le := c_isLet (d := d) (H := H1) (c := tpk g z sg) ⟨by omega, by omega⟩
      have dg := c_isDig (d := d) (H := H1) (c := tpk g z sg) ⟨by omega, by omega⟩
      have nc : ¬ cAt g z p < 0 := by rw [cA]; omega
      cases hal : alnum (tpk g z sg) with
      | false =>
        have hal' : alnum (cAt g z p) = false := by rw [cA]; exact hal
        have ns : small (tpk g z sg) = false ∧ digit (tpk g z sg) = false := by
          unfold alnum at hal
          simp only [Bool.or_eq_false_iff] at hal
          exact hal
        rw [ns.1, bZ_f] at le
        rw [ns.2, bZ_f] at dg
        have nv : nmv g z p = tpk g z sg := by unfold nmv; rw [if_pos hal', cA]
        have nx : nxt g z l p = sg + 1 := by unfold nxt; rw [hm, if_neg (by decide), if_neg nc, if_pos hal', hsg]
        have kdv : kd g z l p = if isSg (tpk g z sg) = true then 3 else 4 := by unfold kd; rw [hm, if_neg (by decide), if_neg nc, if_pos hal', cA]
        have key : ∀ kv : Int, ckd g z l p = kv → M2 (d + 2) 8004 [.ref a] H = some (.inl none, jset H1 a (t, n, ju (ju (ju f1 5 (.int (zI kv))) 8 (.int (zI (tpk g z sg)))) 3 (.int (zI (sg + 1))))) → ∃ H2, M2 (d + 2) 8004 [.ref a] H = some (.inl none, H2) ∧ Fr H H2 (fun q => q = a) ∧ H2.1 ≤ H.1 + 4 ∧ H2.2.1 ≤ H.2.1 + 31 ∧ RdT B H2 a t n tp sc g z l (f 10) (f 11) p := by
          intro kv ck run
          refine ⟨_, run, fr1.tr (Fr.set rfl), by show H1.1 ≤ _; omega, by show H1.2.1 ≤ _; omega, ju (ju (ju f1 5 (.int (zI kv))) 8 (.int (zI (tpk g z sg)))) 3 (.int (zI (sg + 1))), ?_, ?_, ?_, ?_, ⟨p0, p1⟩, by show a < H1.1; omega⟩
          · rw [nx]
            exact h1.up jm_s1 (((ju_ne (by decide)).trans (ju_ne (by decide))).trans (ju_ne (by decide))) (((ju_ne (by decide)).trans (ju_ne (by decide))).trans (ju_ne (by decide))) (((ju_ne (by decide)).trans (ju_ne (by decide))).trans (ju_ne (by decide))) ju_self (((ju_ne (by decide)).trans (ju_ne (by decide))).trans (ju_ne (by decide)))
          · refine ⟨?_, ?_, ?_, fun k => ?_, fun _ => ?_, ?_⟩
            · rw [ju_ne (by decide), ju_ne (by decide), ju_self, ck]
            · rw [ju_ne (by decide), ju_ne (by decide), ju_ne (by decide), q6, pl]
            · obtain ⟨v, hv⟩ := h7
              exact ⟨v, (((ju_ne (by decide)).trans (ju_ne (by decide))).trans (ju_ne (by decide))).trans (q7.trans hv)⟩
            · rw [kdv] at k; split at k <;> omega
            · rw [ju_ne (by decide), ju_self, nv]
            · obtain ⟨w, hw⟩ := h9
              exact ⟨w, (((ju_ne (by decide)).trans (ju_ne (by decide))).trans (ju_ne (by decide))).trans (q9.trans hw), fun k => by rw [kdv] at k; split at k <;> omega⟩
          · exact (((ju_ne (by decide)).trans (ju_ne (by decide))).trans (ju_ne (by decide))).trans q10
          · exact (((ju_ne (by decide)).trans (ju_ne (by decide))).trans (ju_ne (by decide))).trans q11
        have ckv : ckd g z l p = if isSg (tpk g z sg) = true then (if tpk g z sg = 59 then 4 else 6) else 1 := by
          unfold ckd
          rw [kdv, nv, hm]
          by_cases e : isSg (tpk g z sg) = true
          · rw [if_pos e, if_pos e, if_neg (by decide), if_neg (by decide), if_neg (by decide), if_pos rfl]
          · rw [if_neg e, if_neg e, if_neg (by decide), if_neg (by decide), if_neg (by decide), if_neg (by decide), if_neg (by decide)]
        by_cases a59 : tpk g z sg = 59
        · refine key 4 (by rw [ckv, if_pos (by unfold isSg; rw [a59]; rfl), if_pos a59]) ?_
          rw [a59] at le dg
          rw [g94, F8004_94]
          simp (disch := first | assumption | omega | decide | exact okF_i | exact okF_r | exact okF_n | exact okF_j | rfl) only [jc_ref, rI_int, rR_ref, rR_null, rJ_long, ckR_ref, ckR_null, ckr_ref, ckr_null, ckW_int, ckW_ref, ckW_null, cI_ok, cR_ok, cR_null, cV_ok, cJ_ok, qH_eq, qD_in, aG_ref, aS_ref, aL_ref, pF_ref, cK_ref, cK_null, zI_lit, zJ_lit, zI_add, zI_sub, zI_mul, zI_neg, zI_eq, zI_lt, zI_le, Int.reduceLT, Int.reduceLE, Int.reduceAdd, Int.reduceSub, Int.reduceMul, Int.reduceNeg, Int.reduceEq, Int.reduceNe, reduceIte, jf_in, pFc_in, aGi, aGb, aSi, aLc_in, cKc_in, nA_in, jm_s1, jm_s2, jm_p1, jm_p2, jm_b, jn_b, jn_s, jn_p, jset_jset, jset_jpush2, ckR_is, ckr_is, rR_is, ckW_is, cR_is, obi2, ckW_int, eq_self, if_true, ref_null, if_false, ne_eq, not_true_eq_false, not_false_eq_true, decide_true, decide_false, decide_not, Bool.true_and, Bool.false_and, Bool.and_true, Bool.and_false, Bool.true_or, Bool.false_or, Bool.or_true, Bool.or_false, Bool.not_true, Bool.not_false, Bool.false_eq_true, bI_t, bI_f, Int.natCast_one, Int.cast_ofNat_Int, Int.natCast_zero, ju_self, ju_ne, m1, e1, e3, by_, le, dg, a59]
          try rw [if_pos c]
        · by_cases a60 : tpk g z sg = 60
          · refine key 6 (by rw [ckv, if_pos (by unfold isSg; rw [a60]; rfl), if_neg a59]) ?_
            rw [a60] at le dg
            rw [g94, F8004_94]
            simp (disch := first | assumption | omega | decide | exact okF_i | exact okF_r | exact okF_n | exact okF_j | rfl) only [jc_ref, rI_int, rR_ref, rR_null, rJ_long, ckR_ref, ckR_null, ckr_ref, ckr_null, ckW_int, ckW_ref, ckW_null, cI_ok, cR_ok, cR_null, cV_ok, cJ_ok, qH_eq, qD_in, aG_ref, aS_ref, aL_ref, pF_ref, cK_ref, cK_null, zI_lit, zJ_lit, zI_add, zI_sub, zI_mul, zI_neg, zI_eq, zI_lt, zI_le, Int.reduceLT, Int.reduceLE, Int.reduceAdd, Int.reduceSub, Int.reduceMul, Int.reduceNeg, Int.reduceEq, Int.reduceNe, reduceIte, jf_in, pFc_in, aGi, aGb, aSi, aLc_in, cKc_in, nA_in, jm_s1, jm_s2, jm_p1, jm_p2, jm_b, jn_b, jn_s, jn_p, jset_jset, jset_jpush2, ckR_is, ckr_is, rR_is, ckW_is, cR_is, obi2, ckW_int, eq_self, if_true, ref_null, if_false, ne_eq, not_true_eq_false, not_false_eq_true, decide_true, decide_false, decide_not, Bool.true_and, Bool.false_and, Bool.and_true, Bool.and_false, Bool.true_or, Bool.false_or, Bool.or_true, Bool.or_false, Bool.not_true, Bool.not_false, Bool.false_eq_true, bI_t, bI_f, Int.natCast_one, Int.cast_ofNat_Int, Int.natCast_zero, ju_self, ju_ne, m1, e1, e3, by_, le, dg, a60]
            try rw [if_pos c]
          · by_cases a61 : tpk g z sg = 61
            · refine key 6 (by rw [ckv, if_pos (by unfold isSg; rw [a61]; rfl), if_neg a59]) ?_
              rw [a61] at le dg
              rw [g94, F8004_94]
              simp (disch := first | assumption | omega | decide | exact okF_i | exact okF_r | exact okF_n | exact okF_j | rfl) only [jc_ref, rI_int, rR_ref, rR_null, rJ_long, ckR_ref, ckR_null, ckr_ref, ckr_null, ckW_int, ckW_ref, ckW_null, cI_ok, cR_ok, cR_null, cV_ok, cJ_ok, qH_eq, qD_in, aG_ref, aS_ref, aL_ref, pF_ref, cK_ref, cK_null, zI_lit, zJ_lit, zI_add, zI_sub, zI_mul, zI_neg, zI_eq, zI_lt, zI_le, Int.reduceLT, Int.reduceLE, Int.reduceAdd, Int.reduceSub, Int.reduceMul, Int.reduceNeg, Int.reduceEq, Int.reduceNe, reduceIte, jf_in, pFc_in, aGi, aGb, aSi, aLc_in, cKc_in, nA_in, jm_s1, jm_s2, jm_p1, jm_p2, jm_b, jn_b, jn_s, jn_p, jset_jset, jset_jpush2, ckR_is, ckr_is, rR_is, ckW_is, cR_is, obi2, ckW_int, eq_self, if_true, ref_null, if_false, ne_eq, not_true_eq_false, not_false_eq_true, decide_true, decide_false, decide_not, Bool.true_and, Bool.false_and, Bool.and_true, Bool.and_false, Bool.true_or, Bool.false_or, Bool.or_true, Bool.or_false, Bool.not_true, Bool.not_false, Bool.false_eq_true, bI_t, bI_f, Int.natCast_one, Int.cast_ofNat_Int, Int.natCast_zero, ju_self, ju_ne, m1, e1, e3, by_, le, dg, a61]
              try rw [if_pos c]
            · by_cases a62 : tpk g z sg = 62
              · refine key 6 (by rw [ckv, if_pos (by unfold isSg; rw [a62]; rfl), if_neg a59]) ?_
                rw [a62] at le dg
                rw [g94, F8004_94]
                simp (disch := first | assumption | omega | decide | exact okF_i | exact okF_r | exact okF_n | exact okF_j | rfl) only [jc_ref, rI_int, rR_ref, rR_null, rJ_long, ckR_ref, ckR_null, ckr_ref, ckr_null, ckW_int, ckW_ref, ckW_null, cI_ok, cR_ok, cR_null, cV_ok, cJ_ok, qH_eq, qD_in, aG_ref, aS_ref, aL_ref, pF_ref, cK_ref, cK_null, zI_lit, zJ_lit, zI_add, zI_sub, zI_mul, zI_neg, zI_eq, zI_lt, zI_le, Int.reduceLT, Int.reduceLE, Int.reduceAdd, Int.reduceSub, Int.reduceMul, Int.reduceNeg, Int.reduceEq, Int.reduceNe, reduceIte, jf_in, pFc_in, aGi, aGb, aSi, aLc_in, cKc_in, nA_in, jm_s1, jm_s2, jm_p1, jm_p2, jm_b, jn_b, jn_s, jn_p, jset_jset, jset_jpush2, ckR_is, ckr_is, rR_is, ckW_is, cR_is, obi2, ckW_int, eq_self, if_true, ref_null, if_false, ne_eq, not_true_eq_false, not_false_eq_true, decide_true, decide_false, decide_not, Bool.true_and, Bool.false_and, Bool.and_true, Bool.and_false, Bool.true_or, Bool.false_or, Bool.or_true, Bool.or_false, Bool.not_true, Bool.not_false, Bool.false_eq_true, bI_t, bI_f, Int.natCast_one, Int.cast_ofNat_Int, Int.natCast_zero, ju_self, ju_ne, m1, e1, e3, by_, le, dg, a62]
                try rw [if_pos c]
              · by_cases a40 : tpk g z sg = 40
                · refine key 6 (by rw [ckv, if_pos (by unfold isSg; rw [a40]; rfl), if_neg a59]) ?_
                  rw [a40] at le dg
                  rw [g94, F8004_94]
                  simp (disch := first | assumption | omega | decide | exact okF_i | exact okF_r | exact okF_n | exact okF_j | rfl) only [jc_ref, rI_int, rR_ref, rR_null, rJ_long, ckR_ref, ckR_null, ckr_ref, ckr_null, ckW_int, ckW_ref, ckW_null, cI_ok, cR_ok, cR_null, cV_ok, cJ_ok, qH_eq, qD_in, aG_ref, aS_ref, aL_ref, pF_ref, cK_ref, cK_null, zI_lit, zJ_lit, zI_add, zI_sub, zI_mul, zI_neg, zI_eq, zI_lt, zI_le, Int.reduceLT, Int.reduceLE, Int.reduceAdd, Int.reduceSub, Int.reduceMul, Int.reduceNeg, Int.reduceEq, Int.reduceNe, reduceIte, jf_in, pFc_in, aGi, aGb, aSi, aLc_in, cKc_in, nA_in, jm_s1, jm_s2, jm_p1, jm_p2, jm_b, jn_b, jn_s, jn_p, jset_jset, jset_jpush2, ckR_is, ckr_is, rR_is, ckW_is, cR_is, obi2, ckW_int, eq_self, if_true, ref_null, if_false, ne_eq, not_true_eq_false, not_false_eq_true, decide_true, decide_false, decide_not, Bool.true_and, Bool.false_and, Bool.and_true, Bool.and_false, Bool.true_or, Bool.false_or, Bool.or_true, Bool.or_false, Bool.not_true, Bool.not_false, Bool.false_eq_true, bI_t, bI_f, Int.natCast_one, Int.cast_ofNat_Int, Int.natCast_zero, ju_self, ju_ne, m1, e1, e3, by_, le, dg, a40]
                  try rw [if_pos c]
                · by_cases a41 : tpk g z sg = 41
                  · refine key 6 (by rw [ckv, if_pos (by unfold isSg; rw [a41]; rfl), if_neg a59]) ?_
                    rw [a41] at le dg
                    rw [g94, F8004_94]
                    simp (disch := first | assumption | omega | decide | exact okF_i | exact okF_r | exact okF_n | exact okF_j | rfl) only [jc_ref, rI_int, rR_ref, rR_null, rJ_long, ckR_ref, ckR_null, ckr_ref, ckr_null, ckW_int, ckW_ref, ckW_null, cI_ok, cR_ok, cR_null, cV_ok, cJ_ok, qH_eq, qD_in, aG_ref, aS_ref, aL_ref, pF_ref, cK_ref, cK_null, zI_lit, zJ_lit, zI_add, zI_sub, zI_mul, zI_neg, zI_eq, zI_lt, zI_le, Int.reduceLT, Int.reduceLE, Int.reduceAdd, Int.reduceSub, Int.reduceMul, Int.reduceNeg, Int.reduceEq, Int.reduceNe, reduceIte, jf_in, pFc_in, aGi, aGb, aSi, aLc_in, cKc_in, nA_in, jm_s1, jm_s2, jm_p1, jm_p2, jm_b, jn_b, jn_s, jn_p, jset_jset, jset_jpush2, ckR_is, ckr_is, rR_is, ckW_is, cR_is, obi2, ckW_int, eq_self, if_true, ref_null, if_false, ne_eq, not_true_eq_false, not_false_eq_true, decide_true, decide_false, decide_not, Bool.true_and, Bool.false_and, Bool.and_true, Bool.and_false, Bool.true_or, Bool.false_or, Bool.or_true, Bool.or_false, Bool.not_true, Bool.not_false, Bool.false_eq_true, bI_t, bI_f, Int.natCast_one, Int.cast_ofNat_Int, Int.natCast_zero, ju_self, ju_ne, m1, e1, e3, by_, le, dg, a41]
                    try rw [if_pos c]
                  · refine key 1 (by rw [ckv, if_neg (by unfold isSg; rw [decide_eq_true_eq]; omega)]) ?_
                    rw [g94, F8004_94]
                    simp (disch := first | assumption | omega | decide | exact okF_i | exact okF_r | exact okF_n | exact okF_j | rfl) only [jc_ref, rI_int, rR_ref, rR_null, rJ_long, ckR_ref, ckR_null, ckr_ref, ckr_null, ckW_int, ckW_ref, ckW_null, cI_ok, cR_ok, cR_null, cV_ok, cJ_ok, qH_eq, qD_in, aG_ref, aS_ref, aL_ref, pF_ref, cK_ref, cK_null, zI_lit, zJ_lit, zI_add, zI_sub, zI_mul, zI_neg, zI_eq, zI_lt, zI_le, Int.reduceLT, Int.reduceLE, Int.reduceAdd, Int.reduceSub, Int.reduceMul, Int.reduceNeg, Int.reduceEq, Int.reduceNe, reduceIte, jf_in, pFc_in, aGi, aGb, aSi, aLc_in, cKc_in, nA_in, jm_s1, jm_s2, jm_p1, jm_p2, jm_b, jn_b, jn_s, jn_p, jset_jset, jset_jpush2, ckR_is, ckr_is, rR_is, ckW_is, cR_is, obi2, ckW_int, eq_self, if_true, ref_null, if_false, ne_eq, not_true_eq_false, not_false_eq_true, decide_true, decide_false, decide_not, Bool.true_and, Bool.false_and, Bool.and_true, Bool.and_false, Bool.true_or, Bool.false_or, Bool.or_true, Bool.or_false, Bool.not_true, Bool.not_false, Bool.false_eq_true, bI_t, bI_f, Int.natCast_one, Int.cast_ofNat_Int, Int.natCast_zero, ju_self, ju_ne, m1, e1, e3, by_, le, dg, a59, a60, a61, a62, a40, a41]
                    try rw [if_pos c]
      | true =>
        have hal' : ¬ alnum (cAt g z p) = false := by rw [cA, hal]; decide
        have nx : nxt g z l p = en g z sg := by unfold nxt; rw [hm, if_neg (by decide), if_neg nc, if_neg hal', hsg]
        have spe : spn g z p = en g z sg - sg := by unfold spn; rw [hsg]
        have en0 := en_ge (g := g) (z := z) (p := sg)
        have en1 := en_le (g := g) s1
        have en2 : sg < en g z sg := by
          rw [en_step, if_pos hal]
          have := en_ge (g := g) (z := z) (p := sg + 1)
          omega
        obtain ⟨v7, hv7⟩ := h7
        -- number := 0, a builder
        have hf2 : ∃ f2, f2 = ju f1 7 (.int (zI 0)) := ⟨_, rfl⟩
        obtain ⟨f2, hf2⟩ := hf2
        obtain ⟨HB, hHB⟩ : ∃ HB, HB = jset (jburn (jpush (jset H1 a (t, n, f2)) (49, 4, jL [.null, .int (zI 0), .int (zI 0), .int (zI 0)])) 1 16) H1.1 (cSB 16 []) := ⟨_, rfl⟩
        have sn := h_snew (d := d) (H := jpush (jset H1 a (t, n, f2)) (49, 4, jL [.null, .int (zI 0), .int (zI 0), .int (zI 0)])) (a := H1.1) (jm_p1 (h := jset H1 a (t, n, f2)))
        rw [← hHB] at sn
        have anB : a ≠ H1.1 := by omega
        have b0 : jm HB a = some (t, n, f2) := by
          rw [hHB, jm_s2 anB, jm_b, jm_p2 (by show a ≠ H1.1; exact anB), jm_s1]
        have b1 : jm HB H1.1 = some (cSB 16 []) := by rw [hHB]; exact jm_s1
        have frB : Fr H1 HB (fun q => q = a) := by
          rw [hHB]
          refine Fr.new (P := fun q => q = a) (H2 := H1) Fr.rf ?_
          exact (((Fr.set (Or.inl rfl)).tr Fr.push).tr Fr.burn).tr (Fr.set (Or.inr (Nat.le_refl _)))
        have nB : HB.1 = H1.1 + 2 ∧ HB.2.1 = H1.2.1 + 20 := by rw [hHB]; exact ⟨rfl, rfl⟩
        have hB1 : RdO HB a t n f2 tp sc z l (sg + (0 : Nat)) := h1.up b0 (by rw [hf2]; exact ju_ne (by decide)) (by rw [hf2]; exact ju_ne (by decide)) (by rw [hf2]; exact ju_ne (by decide)) (by rw [hf2, ju_ne (by decide), e3]; congr 2; omega) (by rw [hf2]; exact ju_ne (by decide))
        have Fsb : Fz B H H1.1 = none := by
          cases hh : Fz B H H1.1 with
          | none => rfl
          | some c => have := (Fz_lt hh).1; omega
        obtain ⟨H2, f3, i1, i2, i3, i4, i5, i6, i7, i8, i9, i10, i11, i12⟩ := go_221 (d := d) (c1 := zI (tpk g z sg)) (s := small (tpk g z sg)) (sg := sg) K Fa Fsb (Ne.symm anB) (by omega) (en g z sg - sg).toNat 0 HB f2 [] 0 true (hF1.fr frB fun q e => by rw [e]; exact Fa) (by omega) (by omega) hB1 (by rw [hf2, ju_ne (by decide)]; exact q6) (by rw [hf2]; exact ju_self) b1 (fun u hu => by cases hu) (by simp) (by omega) (by rw [show sg + ((0 : Nat) : Int) = sg by omega]; omega)
        rw [show sg + ((0 : Nat) : Int) = sg by omega] at i5 i7 i8 i11 i12
        rw [List.nil_append] at i11 i12
        have em : ((en g z sg - sg).toNat : Int) = en g z sg - sg := by omega
        have run : M2 (d + 2) 8004 [.ref a] H = some (.inl none, H2) := by
          rw [g94, ← i1, F8004_94, bZ_t]
          have r0 : jm (jset H1 a (t, n, f2)) a = some (t, n, f2) := jm_s1
          rw [hf2] at sn
          cases e : small (tpk g z sg) with
          | true =>
            rw [e, bZ_t] at le
            simp (disch := first | assumption | omega | decide | exact okF_i | exact okF_r | exact okF_n | exact okF_j | rfl) only [jc_ref, rI_int, rR_ref, rR_null, rJ_long, ckR_ref, ckR_null, ckr_ref, ckr_null, ckW_int, ckW_ref, ckW_null, cI_ok, cR_ok, cR_null, cV_ok, cJ_ok, qH_eq, qD_in, aG_ref, aS_ref, aL_ref, pF_ref, cK_ref, cK_null, zI_lit, zJ_lit, zI_add, zI_sub, zI_mul, zI_neg, zI_eq, zI_lt, zI_le, Int.reduceLT, Int.reduceLE, Int.reduceAdd, Int.reduceSub, Int.reduceMul, Int.reduceNeg, Int.reduceEq, Int.reduceNe, reduceIte, jf_in, pFc_in, aGi, aGb, aSi, aLc_in, cKc_in, nA_in, jm_s1, jm_s2, jm_p1, jm_p2, jm_b, jn_b, jn_s, jn_p, jset_jset, jset_jpush2, ckR_is, ckr_is, rR_is, ckW_is, cR_is, obi2, ckW_int, eq_self, if_true, ref_null, if_false, ne_eq, not_true_eq_false, not_false_eq_true, decide_true, decide_false, decide_not, Bool.true_and, Bool.false_and, Bool.and_true, Bool.and_false, Bool.true_or, Bool.false_or, Bool.or_true, Bool.or_false, Bool.not_true, Bool.not_false, Bool.false_eq_true, bI_t, bI_f, Int.natCast_one, Int.cast_ofNat_Int, Int.natCast_zero, ju_self, ju_ne, m1, e1, e3, by_, le, sn, bZ_t]
            exact if_pos c
          | false =>
            have e2' : digit (tpk g z sg) = true := by
              unfold alnum at hal
              rw [e, Bool.false_or] at hal
              exact hal
            rw [e, bZ_f] at le
            rw [e2', bZ_t] at dg
            simp (disch := first | assumption | omega | decide | exact okF_i | exact okF_r | exact okF_n | exact okF_j | rfl) only [jc_ref, rI_int, rR_ref, rR_null, rJ_long, ckR_ref, ckR_null, ckr_ref, ckr_null, ckW_int, ckW_ref, ckW_null, cI_ok, cR_ok, cR_null, cV_ok, cJ_ok, qH_eq, qD_in, aG_ref, aS_ref, aL_ref, pF_ref, cK_ref, cK_null, zI_lit, zJ_lit, zI_add, zI_sub, zI_mul, zI_neg, zI_eq, zI_lt, zI_le, Int.reduceLT, Int.reduceLE, Int.reduceAdd, Int.reduceSub, Int.reduceMul, Int.reduceNeg, Int.reduceEq, Int.reduceNe, reduceIte, jf_in, pFc_in, aGi, aGb, aSi, aLc_in, cKc_in, nA_in, jm_s1, jm_s2, jm_p1, jm_p2, jm_b, jn_b, jn_s, jn_p, jset_jset, jset_jpush2, ckR_is, ckr_is, rR_is, ckW_is, cR_is, obi2, ckW_int, eq_self, if_true, ref_null, if_false, ne_eq, not_true_eq_false, not_false_eq_true, decide_true, decide_false, decide_not, Bool.true_and, Bool.false_and, Bool.and_true, Bool.and_false, Bool.true_or, Bool.false_or, Bool.or_true, Bool.or_false, Bool.not_true, Bool.not_false, Bool.false_eq_true, bI_t, bI_f, Int.natCast_one, Int.cast_ofNat_Int, Int.natCast_zero, ju_self, ju_ne, m1, e1, e3, by_, le, dg, sn, bZ_t, bZ_f]
            exact if_pos c
        have okE : okW g z p = (allF g z (small (tpk g z sg)) (en g z sg - sg).toNat sg && decide (en g z sg - sg ≤ if small (tpk g z sg) = true then 7 else 3)) := by unfold okW; rw [cA, spe, ← hsg]
        have kdv : kd g z l p = if okW g z p = true then (if small (tpk g z sg) = true then 1 else 2) else 4 := by unfold kd; rw [hm, if_neg (by decide), if_neg nc, if_neg hal', cA]
        have ckv : ckd g z l p = if okW g z p = true then (if small (tpk g z sg) = true then 2 else 3) else 1 := by
          unfold ckd
          rw [kdv, hm]
          by_cases e : okW g z p = true
          · rw [if_pos e, if_pos e]
            by_cases e2 : small (tpk g z sg) = true
            · rw [if_pos e2, if_pos e2, if_neg (by decide), if_pos rfl]
            · rw [if_neg e2, if_neg e2, if_neg (by decide), if_neg (by decide), if_pos rfl]
          · rw [if_neg e, if_neg e, if_neg (by decide), if_neg (by decide), if_neg (by decide), if_neg (by decide), if_neg (by decide)]
        have frA : Fr H H2 (fun q => q = a) := (fr1.tr frB).new (i2.mono fun q _ e => by
          rcases e with e | e
          · exact Or.inl e
          · exact Or.inr (by omega))
        refine ⟨H2, run, frA, by omega, ?_, f3, ?_, ?_, ?_, ?_, ⟨p0, p1⟩, by omega⟩
        · rw [i4, nB.2, n1.2]; simp only [List.length_nil]; omega
        · rw [nx]
          rw [em, show sg + (en g z sg - sg) = en g z sg by omega] at i5
          exact i5
        · refine ⟨?_, ?_, ⟨_, i8⟩, fun k2 => ?_, fun k3 => ?_, HB.1, i9, fun k1 => ?_⟩
          · rw [i7, ckv, okE]
            congr 2
            by_cases ea : allF g z (small (tpk g z sg)) (en g z sg - sg).toNat sg = true
            · rw [ea, Bool.true_and, Bool.true_and]
              by_cases eb' : en g z sg - sg ≤ if small (tpk g z sg) = true then 7 else 3
              · rw [if_pos ⟨rfl, by omega⟩, if_pos (decide_eq_true eb')]
              · rw [if_neg (fun x => eb' (by have := x.2; omega)), if_neg (by rw [decide_eq_false eb']; decide)]
            · rw [if_neg (fun x => ea (by have := x.1; rwa [Bool.true_and] at this)), if_neg (fun x => ea (by rw [Bool.and_eq_true] at x; exact x.1))]
          · rw [i6 6 (by decide) (by decide) (by decide) (by decide), hf2, ju_ne (by decide), q6, pl]
          · rw [i8]
            unfold nmv
            rw [if_neg hal', spe, ← hsg]
            congr 3
            omega
          · rw [kdv] at k3; split at k3 <;> (try split at k3) <;> omega
          · have ok : okW g z p = true := by
              rw [kdv] at k1
              split at k1
              · assumption
              · omega
            have sm : small (tpk g z sg) = true := by
              rw [kdv, if_pos ok] at k1
              split at k1
              · assumption
              · omega
            rw [okE, Bool.and_eq_true, decide_eq_true_eq, if_pos sm, sm] at ok
            have mem := wdB_mem (g := g) (z := z) (min (7 - 0) (en g z sg - sg).toNat) sg true (allF_le _ _ _ _ (Nat.min_le_right _ _) ok.1)
            have wl := wdB_len (g := g) (z := z) (min (7 - 0) (en g z sg - sg).toNat) sg
            refine ⟨wdB g z (min (7 - 0) (en g z sg - sg).toNat) sg, ?_, ⟨by rw [wl]; omega, by rw [wl]; omega, fun u hu => small_rg (mem u hu)⟩, ?_⟩
            · have nb : ∀ u, H.1 ≤ u → ¬ B u := fun u hu x => by have := hB u x; omega
              refine ⟨50, HB.1 + 1, 1010, _, _, ⟨Fz_in (by omega) (nb _ (by omega)) i10, Or.inl rfl, rfl, rfl⟩, Fz_in (by omega) (nb _ (by omega)) i11, Or.inl rfl, fun k _ => rfl, fun u hu => i12 u hu, by rw [wl]; omega⟩
            · unfold pk wdv
              rw [wdF_B, ← hsg, spe]
              congr 2
              omega
        · rw [i6 10 (by decide) (by decide) (by decide) (by decide), hf2, ju_ne (by decide), q10]
        · rw [i6 11 (by decide) (by decide) (by decide) (by decide), hf2, ju_ne (by decide), q11]
    · have tn : tpk g z sg = -1 := tpk_ge (by omega)
      have nc : cAt g z p < 0 := by rw [cA, tn]; decide
      have kd0 : kd g z l p = 0 := by unfold kd; rw [hm, if_neg (by decide), if_pos nc]
      have nx : nxt g z l p = sg := by unfold nxt; rw [hm, if_neg (by decide), if_pos nc, hsg]
      have ck : ckd g z l p = 0 := by unfold ckd; rw [kd0, if_pos rfl]
      have run : M2 (d + 2) 8004 [.ref a] H = some (.inl none, jset H1 a (t, n, ju f1 5 (.int (zI 0)))) := by
        rw [g94, F8004_94]
        simp (disch := first | assumption | omega | decide | exact okF_i | exact okF_r | exact okF_n | exact okF_j | rfl) only [jc_ref, rI_int, rR_ref, rR_null, rJ_long, ckR_ref, ckR_null, ckr_ref, ckr_null, ckW_int, ckW_ref, ckW_null, cI_ok, cR_ok, cR_null, cV_ok, cJ_ok, qH_eq, qD_in, aG_ref, aS_ref, aL_ref, pF_ref, cK_ref, cK_null, zI_lit, zJ_lit, zI_add, zI_sub, zI_mul, zI_neg, zI_eq, zI_lt, zI_le, Int.reduceLT, Int.reduceLE, Int.reduceAdd, Int.reduceSub, Int.reduceMul, Int.reduceNeg, Int.reduceEq, Int.reduceNe, reduceIte, jf_in, pFc_in, aGi, aGb, aSi, aLc_in, cKc_in, nA_in, jm_s1, jm_s2, jm_p1, jm_p2, jm_b, jn_b, jn_s, jn_p, jset_jset, jset_jpush2, ckR_is, ckr_is, rR_is, ckW_is, cR_is, obi2, ckW_int, eq_self, if_true, ref_null, if_false, ne_eq, not_true_eq_false, not_false_eq_true, decide_true, decide_false, decide_not, Bool.true_and, Bool.false_and, Bool.and_true, Bool.and_false, Bool.true_or, Bool.false_or, Bool.or_true, Bool.or_false, Bool.not_true, Bool.not_false, Bool.false_eq_true, bI_t, bI_f, Int.natCast_one, Int.cast_ofNat_Int, Int.natCast_zero, ju_self, ju_ne, m1, e1, e3]
        try rw [if_neg c]
      refine ⟨_, run, fr1.tr (Fr.set rfl), by show H1.1 ≤ _; omega, by show H1.2.1 ≤ _; omega, ju f1 5 (.int (zI 0)), ?_, ?_, ?_, ?_, ⟨p0, p1⟩, by show a < H1.1; omega⟩
      · rw [nx]
        exact h1.up jm_s1 (ju_ne (by decide)) (ju_ne (by decide)) (ju_ne (by decide)) ((ju_ne (by decide)).trans e3) (ju_ne (by decide))
      · refine ⟨by rw [ju_self, ck], by rw [ju_ne (by decide), q6, pl], ?_, fun k => by omega, fun k => by omega, ?_⟩
        · obtain ⟨v, hv⟩ := h7
          exact ⟨v, (ju_ne (by decide)).trans (q7.trans hv)⟩
        · obtain ⟨w, hw⟩ := h9
          exact ⟨w, (ju_ne (by decide)).trans (q9.trans hw), fun k => by omega⟩
      · exact (ju_ne (by decide)).trans q10
      · exact (ju_ne (by decide)).trans q11
/-- it goes on -/
theorem rt_go (K : RdK (Fz B H) (je H) tp g z l) (ha : B a) (hB : ∀ z, B z → z < H.1) (h : RdT B H a t n tp sc g z l x y q) : ∃ H2, M2 (d + 2) 8004 [.ref a] H = some (.inl none, H2) ∧ Fr H H2 (fun q => q = a) ∧ H2.1 ≤ H.1 + 4 ∧ H2.2.1 ≤ H.2.1 + 31 ∧ RdT B H2 a t n tp sc g z l x y (nxt g z l q) := by
  obtain ⟨f, h1, h2, h3, h4, h5, h6⟩ := h
  have nr := nxt_rg (g := g) (l := l) h5.2
  obtain ⟨H2, a1, a2, a3, a4, a5⟩ := c_go (d := d) K ha hB h1 h2.2.2.1 (by obtain ⟨w, w1, -⟩ := h2.2.2.2.2.2; exact ⟨w, w1⟩) (by omega) nr.2
  rw [h3, h4] at a5
  exact ⟨H2, a1, a2, a3, a4, a5⟩
end
