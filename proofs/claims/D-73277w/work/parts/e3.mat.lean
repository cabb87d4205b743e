/-! sort: two neighbours are merged -/
-- jc_ref, rI_int, rR_ref, rR_null, rJ_long, ckR_ref, ckR_null, ckr_ref, ckr_null, ckW_int, ckW_ref, ckW_null, cI_ok, cR_ok, cR_null, cV_ok, cJ_ok, qH_eq, qD_in, aG_ref, aS_ref, aL_ref, pF_ref, cK_ref, cK_null, zI_lit, zJ_lit, zI_add, zI_sub, zI_mul, zI_neg, zI_eq, zI_lt, zI_le, Int.reduceLT, Int.reduceLE, Int.reduceAdd, Int.reduceSub, Int.reduceMul, Int.reduceNeg, Int.reduceEq, Int.reduceNe, reduceIte, jf_in, pFc_in, aGi, aGb, aSi, aLc_in, cKc_in, nA_in, jm_s1, jm_s2, jm_p1, jm_p2, jm_b, jn_b, jn_s, jn_p, jset_jset, jset_jpush2, ckR_is, ckr_is, rR_is, ckW_is, cR_is, obi2, ckW_int, eq_self, if_true, ref_null, if_false, ne_eq, not_true_eq_false, not_false_eq_true, decide_true, decide_false, decide_not, Bool.true_and, Bool.false_and, Bool.and_true, Bool.and_false, Bool.true_or, Bool.false_or, Bool.or_true, Bool.or_false, Bool.not_true, Bool.not_false, Bool.false_eq_true, bI_t, bI_f, Int.natCast_one, Int.cast_ofNat_Int, Int.natCast_zero, aGc_V, Int.toNat_natCast, or0, or0', o72_0, o72_1, o72_2, o72_3, o72_4, o72_5, o72_6, o72_7, n72, o72s_0, o72s_1, o72s_2, o72s_3, o72s_4, o72s_5, o72s_6, o72s_7 = jc_ref, rI_int, rR_ref, rR_null, rJ_long, ckR_ref, ckR_null, ckr_ref, ckr_null, ckW_int, ckW_ref, ckW_null, cI_ok, cR_ok, cR_null, cV_ok, cJ_ok, qH_eq, qD_in, aG_ref, aS_ref, aL_ref, pF_ref, cK_ref, cK_null, zI_lit, zJ_lit, zI_add, zI_sub, zI_mul, zI_neg, zI_eq, zI_lt, zI_le, Int.reduceLT, Int.reduceLE, Int.reduceAdd, Int.reduceSub, Int.reduceMul, Int.reduceNeg, Int.reduceEq, Int.reduceNe, reduceIte, jf_in, pFc_in, aGi, aGb, aSi, aLc_in, cKc_in, nA_in, jm_s1, jm_s2, jm_p1, jm_p2, jm_b, jn_b, jn_s, jn_p, jset_jset, jset_jpush2, ckR_is, ckr_is, rR_is, ckW_is, cR_is, obi2, ckW_int, eq_self, if_true, ref_null, if_false, ne_eq, not_true_eq_false, not_false_eq_true, decide_true, decide_false, decide_not, Bool.true_and, Bool.false_and, Bool.and_true, Bool.and_false, Bool.true_or, Bool.false_or, Bool.or_true, Bool.or_false, Bool.not_true, Bool.not_false, Bool.false_eq_true, bI_t, bI_f, Int.natCast_one, Int.cast_ofNat_Int, Int.natCast_zero, aGc_V, Int.toNat_natCast, or0, or0', o72_0, o72_1, o72_2, o72_3, o72_4, o72_5, o72_6, o72_7, n72, o72s_0, o72s_1, o72s_2, o72s_3, o72s_4, o72s_5, o72s_6, o72s_7
section
variable {G : Nat → Option Cl} {rk : Value → Int} {d : Nat} {H : AH} {e e2 ts N N2 B c2 n1 n2 E : Nat} {f g : Nat → Value} {mg ss U : Int} {rb rl : Value}
theorem TSt.setSS (h : TSt G H ts e e2 N N2 f mg ss rb rl) (ss2 : Int) : TSt G (jset H ts (72, 8, o72 (.ref e) mg (.ref e2) 0 N2 ss2 rb rl)) ts e e2 N N2 f mg ss2 rb rl := by
  obtain ⟨hG, ⟨g1, g2, g3⟩, ⟨x1, x2, x3⟩, hN, hq, me, ⟨t0, mt⟩, ms, l1, l2, l3⟩ := h
  exact ⟨hG.arr g2, ⟨g1, g2, g3⟩, ⟨x1, x2, x3⟩, hN, hq, (jm_s2 (Ne.symm x2)).trans me, ⟨t0, (jm_s2 (Ne.symm x3)).trans mt⟩, jm_s1, l1, l2, l3⟩
/-- a sorted middle between what is less and what is more -/
theorem srt_mid {B P Q R : Nat} (hBP : B ≤ P) (hPQ : P ≤ Q) (hQR : Q ≤ R) (s1 : SrtA rk f B (P - B)) (s3 : SrtA rk f Q (R - Q)) (sm : SrtA rk g P (Q - P)) (pm : PmR f g P (Q - P)) (lo : ∀ x y, B ≤ x → x < P → P ≤ y → y < Q → rk (f x) ≤ rk (f y)) (hi : ∀ x y, P ≤ x → x < Q → Q ≤ y → y < R → rk (f x) ≤ rk (f y)) (ou : ∀ x y, B ≤ x → x < P → Q ≤ y → y < R → rk (f x) ≤ rk (f y)) : SrtA rk g B (R - B) := by
  have o := pm.2
  have l1 : ∀ x, B ≤ x → x < P → ∀ y, P ≤ y → y < P + (Q - P) → rk (f x) ≤ rk (g y) := fun x a b => pm.mem (P := fun v => rk (f x) ≤ rk v) fun y c d => lo x y a b c (by omega)
  have l2 : ∀ y, Q ≤ y → y < R → ∀ x, P ≤ x → x < P + (Q - P) → rk (g x) ≤ rk (f y) := fun y a b => pm.mem (P := fun v => rk v ≤ rk (f y)) fun x c d => hi x y c (by omega) a b
  intro x y hx hxy hy
  by_cases hyP : y < P
  · rw [o x (by omega), o y (by omega)]; exact s1 x y hx hxy (by omega)
  · by_cases hyQ : y < Q
    · by_cases hxP : x < P
      · rw [o x (by omega)]; exact l1 x hx hxP y (by omega) (by omega)
      · exact sm x y (by omega) hxy (by omega)
    · rw [o y (by omega)]
      by_cases hxP : x < P
      · rw [o x (by omega)]; exact ou x y hx hxP (by omega) (by omega)
      · by_cases hxQ : x < Q
        · exact l2 y (by omega) (by omega) x (by omega) (by omega)
        · rw [o x (by omega)]; exact s3 x y (by omega) hxy (by omega)
theorem c_m205 (h : TSt G H ts e e2 N N2 f mg ss rb rl) (hs0 : -1000 ≤ ss ∧ ss ≤ 1000) (hb : B + n1 = c2) (hE : c2 + n2 ≤ N) (p1 : 1 ≤ n1) (p2 : 1 ≤ n2) (hA : OkA G rk f B (n1 + n2)) (s1 : SrtA rk f B n1) (s2 : SrtA rk f c2 n2) (m1 : 1 ≤ mg) (m2 : mg + 3 * (n1 + n2) ≤ U) (m3 : 2 + 3 * (n1 + n2) ≤ U) (hU : U < 1000000000) {i1 : Int} :
    ∃ (H2 : AH) (f' : Nat → Value) (mg' : Int) (e3 N3 : Nat), G2 (d + 6) 72005 205 [.ref ts, .int (zI i1), .int (zI B), .int (zI n1), .int (zI c2), .int (zI n2), jno] [] H = some (.inl none, H2) ∧ TSt G H2 ts e e3 N N3 f' mg' (ss - 1) rb rl ∧ (1 ≤ mg' ∧ mg' ≤ U) ∧ SrtA rk f' B (n1 + n2) ∧ PmR f f' B (n1 + n2) ∧ Fr H H2 (fun q => q = e ∨ q = ts ∨ q = e2) ∧ GroT H H2 N N2 N3 e2 e3 := by
  have hT := h.setSS (ss - 1)
  obtain ⟨-, -, -, hN, -, -, -, ms0, -, l2, -⟩ := h
  obtain ⟨K, hK⟩ : ∃ K, K = jset H ts (72, 8, o72 (.ref e) mg (.ref e2) 0 N2 (ss - 1) rb rl) := ⟨_, rfl⟩
  rw [← hK] at hT
  have fK : Fr H K (fun q => q = e ∨ q = ts ∨ q = e2) := by rw [hK]; exact Fr.set (Or.inr (Or.inl rfl))
  have K1 : K.1 = H.1 := by rw [hK]; rfl
  have K2 : K.2.1 = H.2.1 := by rw [hK]; rfl
  have hT' := hT
  obtain ⟨hG, -, -, -, -, me, -, ms, -⟩ := hT
  have a2 := hA c2 (by omega) (by omega)
  have r2 := a2.R
  obtain ⟨k, k1, k2, k3, k4⟩ := c_gal72004 (d := d + 3) hG (by omega) me (b := B) (n := n1) (by omega) (fun i a b => hA i a (by omega)) a2 s1 (hint := 0) (by omega)
  have k4' : M2 (d + 6) 72004 [f c2, .ref e, .int (zI B), .int (zI n1), .int (zI 0)] K = some (.inl (some (.int (zI k))), K) := k4
  have hk := fun (κ : Rz) (u : Ph κ) => cmp_K hG a2 (κ := κ) (u := u)
  have st : G2 (d + 6) 72005 205 [.ref ts, .int (zI i1), .int (zI B), .int (zI n1), .int (zI c2), .int (zI n2), jno] [] H = G2 (d + 6) 72005 256 [.ref ts, .int (zI i1), .int (zI B), .int (zI n1), .int (zI c2), .int (zI n2), .int (zI k)] [] K := by
    subst hK
    rw [F72005_205]
    simp (disch := first | assumption | omega | decide | exact okF_i | exact okF_r | exact okF_n | exact okF_j | rfl) only [jc_ref, rI_int, rR_ref, rR_null, rJ_long, ckR_ref, ckR_null, ckr_ref, ckr_null, ckW_int, ckW_ref, ckW_null, cI_ok, cR_ok, cR_null, cV_ok, cJ_ok, qH_eq, qD_in, aG_ref, aS_ref, aL_ref, pF_ref, cK_ref, cK_null, zI_lit, zJ_lit, zI_add, zI_sub, zI_mul, zI_neg, zI_eq, zI_lt, zI_le, Int.reduceLT, Int.reduceLE, Int.reduceAdd, Int.reduceSub, Int.reduceMul, Int.reduceNeg, Int.reduceEq, Int.reduceNe, reduceIte, jf_in, pFc_in, aGi, aGb, aSi, aLc_in, cKc_in, nA_in, jm_s1, jm_s2, jm_p1, jm_p2, jm_b, jn_b, jn_s, jn_p, jset_jset, jset_jpush2, ckR_is, ckr_is, rR_is, ckW_is, cR_is, obi2, ckW_int, eq_self, if_true, ref_null, if_false, ne_eq, not_true_eq_false, not_false_eq_true, decide_true, decide_false, decide_not, Bool.true_and, Bool.false_and, Bool.and_true, Bool.and_false, Bool.true_or, Bool.false_or, Bool.or_true, Bool.or_false, Bool.not_true, Bool.not_false, Bool.false_eq_true, bI_t, bI_f, Int.natCast_one, Int.cast_ofNat_Int, Int.natCast_zero, aGc_V, Int.toNat_natCast, or0, or0', o72_0, o72_1, o72_2, o72_3, o72_4, o72_5, o72_6, o72_7, n72, o72s_0, o72s_1, o72s_2, o72s_3, o72s_4, o72s_5, o72s_6, o72s_7, ms0, me, hk, k4']
  have gr0 : GroT H K N N2 N2 e2 e2 := Or.inl ⟨rfl, rfl, K1, K2⟩
  rw [st]
  by_cases c0 : n1 - k = 0
  · refine ⟨K, f, mg, e2, N2, ?_, hT', ⟨m1, by omega⟩, fun x y hx hxy hy => ?_, PmR.rf, fK, gr0⟩
    · rw [F72005_256]
      simp (disch := first | assumption | omega | decide | exact okF_i | exact okF_r | exact okF_n | exact okF_j | rfl) only [jc_ref, rI_int, rR_ref, rR_null, rJ_long, ckR_ref, ckR_null, ckr_ref, ckr_null, ckW_int, ckW_ref, ckW_null, cI_ok, cR_ok, cR_null, cV_ok, cJ_ok, qH_eq, qD_in, aG_ref, aS_ref, aL_ref, pF_ref, cK_ref, cK_null, zI_lit, zJ_lit, zI_add, zI_sub, zI_mul, zI_neg, zI_eq, zI_lt, zI_le, Int.reduceLT, Int.reduceLE, Int.reduceAdd, Int.reduceSub, Int.reduceMul, Int.reduceNeg, Int.reduceEq, Int.reduceNe, reduceIte, jf_in, pFc_in, aGi, aGb, aSi, aLc_in, cKc_in, nA_in, jm_s1, jm_s2, jm_p1, jm_p2, jm_b, jn_b, jn_s, jn_p, jset_jset, jset_jpush2, ckR_is, ckr_is, rR_is, ckW_is, cR_is, obi2, ckW_int, eq_self, if_true, ref_null, if_false, ne_eq, not_true_eq_false, not_false_eq_true, decide_true, decide_false, decide_not, Bool.true_and, Bool.false_and, Bool.and_true, Bool.and_false, Bool.true_or, Bool.false_or, Bool.or_true, Bool.or_false, Bool.not_true, Bool.not_false, Bool.false_eq_true, bI_t, bI_f, Int.natCast_one, Int.cast_ofNat_Int, Int.natCast_zero, aGc_V, Int.toNat_natCast, or0, or0', o72_0, o72_1, o72_2, o72_3, o72_4, o72_5, o72_6, o72_7, n72, o72s_0, o72s_1, o72s_2, o72s_3, o72s_4, o72s_5, o72s_6, o72s_7]
      rw [if_pos (by omega)]
    · have q := k2 (n1 - 1) (by omega)
      by_cases hy2 : y < c2
      · exact s1 x y hx hxy (by omega)
      · by_cases hx2 : x < c2
        · have q1 := s1 x (B + (n1 - 1)) hx (by omega) (by omega)
          have q2 := s2 c2 y (Nat.le_refl _) (by omega) (by omega)
          omega
        · exact s2 x y (by omega) hxy (by omega)
  · have a1 := hA (c2 - 1) (by omega) (by omega)
    have r1 := a1.R
    obtain ⟨m, q1, q2, q3, q4⟩ := c_gal72003 (d := d + 3) hG (by omega) me (b := c2) (n := n2) hE (fun i a b => hA i (by omega) (by omega)) a1 s2 (hint := n2 - 1) (by omega)
    have q4' : M2 (d + 6) 72003 [f (c2 - 1), .ref e, .int (zI c2), .int (zI n2), .int (zI ((n2 : Int) - 1))] K = some (.inl (some (.int (zI m))), K) := by
      rw [show (n2 : Int) - 1 = ((n2 - 1 : Nat) : Int) by omega]; exact q4
    have hk1 := fun (κ : Rz) (u : Ph κ) => cmp_K hG a1 (κ := κ) (u := u)
    have t1 : ((B : Int) + k + (n1 - k) - 1).toNat = c2 - 1 := by omega
    have z1 : (B : Int) + k = ((B + k : Nat) : Int) := by omega
    have z2 : (n1 : Int) - k = ((n1 - k : Nat) : Int) := by omega
    have t2 : (((B + k : Nat) : Int) + ((n1 - k : Nat) : Int) - 1).toNat = c2 - 1 := by omega
    have st2 : G2 (d + 6) 72005 256 [.ref ts, .int (zI i1), .int (zI B), .int (zI n1), .int (zI c2), .int (zI n2), .int (zI k)] [] K = G2 (d + 6) 72005 320 [.ref ts, .int (zI i1), .int (zI ((B + k : Nat) : Int)), .int (zI ((n1 - k : Nat) : Int)), .int (zI c2), .int (zI m), .int (zI k)] [] K := by
      rw [F72005_256]
      simp (disch := first | assumption | omega | decide | exact okF_i | exact okF_r | exact okF_n | exact okF_j | rfl) only [jc_ref, rI_int, rR_ref, rR_null, rJ_long, ckR_ref, ckR_null, ckr_ref, ckr_null, ckW_int, ckW_ref, ckW_null, cI_ok, cR_ok, cR_null, cV_ok, cJ_ok, qH_eq, qD_in, aG_ref, aS_ref, aL_ref, pF_ref, cK_ref, cK_null, zI_lit, zJ_lit, zI_add, zI_sub, zI_mul, zI_neg, zI_eq, zI_lt, zI_le, Int.reduceLT, Int.reduceLE, Int.reduceAdd, Int.reduceSub, Int.reduceMul, Int.reduceNeg, Int.reduceEq, Int.reduceNe, reduceIte, jf_in, pFc_in, aGi, aGb, aSi, aLc_in, cKc_in, nA_in, jm_s1, jm_s2, jm_p1, jm_p2, jm_b, jn_b, jn_s, jn_p, jset_jset, jset_jpush2, ckR_is, ckr_is, rR_is, ckW_is, cR_is, obi2, ckW_int, eq_self, if_true, ref_null, if_false, ne_eq, not_true_eq_false, not_false_eq_true, decide_true, decide_false, decide_not, Bool.true_and, Bool.false_and, Bool.and_true, Bool.and_false, Bool.true_or, Bool.false_or, Bool.or_true, Bool.or_false, Bool.not_true, Bool.not_false, Bool.false_eq_true, bI_t, bI_f, Int.natCast_one, Int.cast_ofNat_Int, Int.natCast_zero, aGc_V, Int.toNat_natCast, or0, or0', o72_0, o72_1, o72_2, o72_3, o72_4, o72_5, o72_6, o72_7, n72, o72s_0, o72s_1, o72s_2, o72s_3, o72s_4, o72s_5, o72s_6, o72s_7, z1, z2, ms, me, t2, hk1, q4']
      rw [if_neg (by omega)]
    rw [st2, F72005_320]
    by_cases c1 : m = 0
    · refine ⟨K, f, mg, e2, N2, ?_, hT', ⟨m1, by omega⟩, fun x y hx hxy hy => ?_, PmR.rf, fK, gr0⟩
      · rw [if_pos (show zI (m : Int) = 0 by rw [c1]; rfl)]
      · have q := q3 0 (by omega) (by omega)
        by_cases hy2 : y < c2
        · exact s1 x y hx hxy (by omega)
        · by_cases hx2 : x < c2
          · have w1 := s1 x (c2 - 1) hx (by omega) (by omega)
            have w2 := s2 c2 y (Nat.le_refl _) (by omega) (by omega)
            rw [Nat.add_zero] at q
            omega
          · exact s2 x y (by omega) hxy (by omega)
    · rw [if_neg (show ¬ zI (m : Int) = 0 by rw [zq0 (by omega) (by omega)]; omega)]
      have lt1 : ∀ x, c2 ≤ x → x < c2 + m → rk (f x) < rk (f (c2 - 1)) := fun x a b => by
        have := q2 (x - c2) (by omega)
        rw [show c2 + (x - c2) = x by omega] at this; exact this
      have lt2 : ∀ x, B + k ≤ x → x < c2 → rk (f c2) < rk (f x) := fun x a b => by
        have := k3 (x - B) (by omega) (by omega)
        rw [show B + (x - B) = x by omega] at this; omega
      have le1 : ∀ x, B ≤ x → x < B + k → rk (f x) ≤ rk (f c2) := fun x a b => by
        have := k2 (x - B) (by omega)
        rw [show B + (x - B) = x by omega] at this; exact this
      have le2 : ∀ x, c2 + m ≤ x → x < c2 + n2 → rk (f (c2 - 1)) ≤ rk (f x) := fun x a b => by
        have := q3 (x - c2) (by omega) (by omega)
        rw [show c2 + (x - c2) = x by omega] at this; omega
      have mrg : ∃ (H2 : AH) (f' : Nat → Value) (mg' : Int) (e3 N3 : Nat), (if zI (m : Int) < zI ((n1 - k : Nat) : Int) then zcV (M2 (d + 6) 72008 [.ref ts, .int (zI ((B + k : Nat) : Int)), .int (zI ((n1 - k : Nat) : Int)), .int (zI c2), .int (zI m)] K) (fun h2 => some (.inl none, h2)) () else zcV (M2 (d + 6) 72009 [.ref ts, .int (zI ((B + k : Nat) : Int)), .int (zI ((n1 - k : Nat) : Int)), .int (zI c2), .int (zI m)] K) (fun h4 => some (.inl none, h4)) ()) = some (.inl none, H2) ∧ TSt G H2 ts e e3 N N3 f' mg' (ss - 1) rb rl ∧ (1 ≤ mg' ∧ mg' ≤ U) ∧ SrtA rk f' (B + k) (c2 + m - (B + k)) ∧ PmR f f' (B + k) (c2 + m - (B + k)) ∧ Fr K H2 (fun q => q = e ∨ q = ts ∨ q = e2) ∧ GroT K H2 N N2 N3 e2 e3 := by
        by_cases hlt : m < n1 - k
        · obtain ⟨H2, f', mg', e3, N3, w1, w⟩ := c_mhi (d := d + 1) (rk := rk) (U := U) hT' (B := B + k) (n1 := n1 - k) (c2 := c2) (n2 := m) (E := c2 + m) (by omega) rfl (by omega) (by omega) (by omega) (by omega) (fun i a b => hA i (by omega) (by omega)) (fun i j a b c => s1 i j (by omega) b (by omega)) (fun i j a b c => s2 i j a b (by omega)) (Int.le_of_lt (lt1 _ (by omega) (by omega))) (fun x a b => lt2 x a b) m1 (by omega) (by omega) hU
          refine ⟨H2, f', mg', e3, N3, ?_, w⟩
          rw [if_pos (show zI (m : Int) < zI ((n1 - k : Nat) : Int) by rw [zI_lt (by omega) (by omega) (by omega) (by omega)]; omega), w1]
          rfl
        · obtain ⟨H2, f', mg', e3, N3, w1, w⟩ := c_mlo (d := d + 1) (rk := rk) (U := U) hT' (B := B + k) (n1 := n1 - k) (c2 := c2) (n2 := m) (E := c2 + m) (by omega) rfl (by omega) (by omega) (by omega) (by omega) (fun i a b => hA i (by omega) (by omega)) (fun i j a b c => s1 i j (by omega) b (by omega)) (fun i j a b c => s2 i j a b (by omega)) (Int.le_of_lt (lt2 _ (Nat.le_refl _) (by omega))) (fun x a b => lt1 x a b) m1 (by omega) (by omega) hU
          refine ⟨H2, f', mg', e3, N3, ?_, w⟩
          rw [if_neg (show ¬ zI (m : Int) < zI ((n1 - k : Nat) : Int) by rw [zI_lt (by omega) (by omega) (by omega) (by omega)]; omega), w1]
          rfl
      obtain ⟨H2, f', mg', e3, N3, w1, w2, w3, w4, w5, w6, w7⟩ := mrg
      refine ⟨H2, f', mg', e3, N3, w1, w2, w3, ?_, w5.wd (by omega) (by omega), fK.tr w6, ?_⟩
      · have := srt_mid (rk := rk) (f := f) (g := f') (B := B) (P := B + k) (Q := c2 + m) (R := B + (n1 + n2)) (by omega) (by omega) (by omega) (fun i j a b c => s1 i j a b (by omega)) (fun i j a b c => s2 i j (by omega) b (by omega)) w4 w5
          (fun x y a b c d => by
            by_cases hy : y < c2
            · exact s1 x y a (by omega) (by omega)
            · have u1 := le1 x a b
              have u2 := s2 c2 y (Nat.le_refl _) (by omega) (by omega)
              omega)
          (fun x y a b c d => by
            by_cases hx : x < c2
            · have u1 := le2 y c (by omega)
              have u2 := s1 x (c2 - 1) (by omega) (by omega) (by omega)
              omega
            · exact s2 x y (by omega) (by omega) (by omega))
          (fun x y a b c d => by
            have u1 := le1 x a b
            have u2 := s2 c2 y (Nat.le_refl _) (by omega) (by omega)
            omega)
        rw [show B + (n1 + n2) - B = n1 + n2 by omega] at this
        exact this
      · unfold GroT at w7 ⊢
        rw [K1, K2] at w7
        exact w7
end
