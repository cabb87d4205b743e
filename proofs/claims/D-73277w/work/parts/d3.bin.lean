/-! sort: by insertion */ -/
-- jc_ref, rI_int, rR_ref, rR_null, rJ_long, ckR_ref, ckR_null, ckr_ref, ckr_null, ckW_int, ckW_ref, ckW_null, cI_ok, cR_ok, cR_null, cV_ok, cJ_ok, qH_eq, qD_in, aG_ref, aS_ref, aL_ref, pF_ref, cK_ref, cK_null, zI_lit, zJ_lit, zI_add, zI_sub, zI_mul, zI_neg, zI_eq, zI_lt, zI_le, Int.reduceLT, Int.reduceLE, Int.reduceAdd, Int.reduceSub, Int.reduceMul, Int.reduceNeg, Int.reduceEq, Int.reduceNe, reduceIte, jf_in, pFc_in, aGi, aGb, aSi, aLc_in, cKc_in, nA_in, jm_s1, jm_s2, jm_p1, jm_p2, jm_b, jn_b, jn_s, jn_p, jset_jset, jset_jpush2, ckR_is, ckr_is, rR_is, ckW_is, cR_is, obi2, ckW_int, eq_self, if_true, ref_null, if_false, ne_eq, not_true_eq_false, not_false_eq_true, decide_true, decide_false, decide_not, Bool.true_and, Bool.false_and, Bool.and_true, Bool.and_false, Bool.true_or, Bool.false_or, Bool.or_true, Bool.or_false, Bool.not_true, Bool.not_false, Bool.false_eq_true, bI_t, bI_f, Int.natCast_one, Int.cast_ofNat_Int, Int.natCast_zero, aGc_V, Int.toNat_natCast = jc_ref, rI_int, rR_ref, rR_null, rJ_long, ckR_ref, ckR_null, ckr_ref, ckr_null, ckW_int, ckW_ref, ckW_null, cI_ok, cR_ok, cR_null, cV_ok, cJ_ok, qH_eq, qD_in, aG_ref, aS_ref, aL_ref, pF_ref, cK_ref, cK_null, zI_lit, zJ_lit, zI_add, zI_sub, zI_mul, zI_neg, zI_eq, zI_lt, zI_le, Int.reduceLT, Int.reduceLE, Int.reduceAdd, Int.reduceSub, Int.reduceMul, Int.reduceNeg, Int.reduceEq, Int.reduceNe, reduceIte, jf_in, pFc_in, aGi, aGb, aSi, aLc_in, cKc_in, nA_in, jm_s1, jm_s2, jm_p1, jm_p2, jm_b, jn_b, jn_s, jn_p, jset_jset, jset_jpush2, ckR_is, ckr_is, rR_is, ckW_is, cR_is, obi2, ckW_int, eq_self, if_true, ref_null, if_false, ne_eq, not_true_eq_false, not_false_eq_true, decide_true, decide_false, decide_not, Bool.true_and, Bool.false_and, Bool.and_true, Bool.and_false, Bool.true_or, Bool.false_or, Bool.or_true, Bool.or_false, Bool.not_true, Bool.not_false, Bool.false_eq_true, bI_t, bI_f, Int.natCast_one, Int.cast_ofNat_Int, Int.natCast_zero, aGc_V, Int.toNat_natCast
theorem zN_bv {m : Nat} (h : m < 2147483648) : (zI (m : Int)).toBitVec.toNat = m := by
  have : zI (m : Int) = Int32.ofNat m := Int32.ofInt_eq_ofNat
  rw [this]
  show (BitVec.ofNat 32 m).toNat = m
  rw [BitVec.toNat_ofNat, Nat.mod_eq_of_lt (by omega)]
theorem ushr1 {m : Nat} (h1 : m < 2147483648) : ((zI (m : Int)).toUInt32 >>> ((zI 1).toUInt32 &&& (zI 31).toUInt32)).toInt32 = zI ((m / 2 : Nat) : Int) := by
  have e : ((zI 1).toUInt32 &&& (zI 31).toUInt32) = 1 := by decide
  rw [e]
  apply Int32.toBitVec_inj.mp
  apply BitVec.eq_of_toNat_eq
  rw [zN_bv (by omega)]
  show ((zI (m : Int)).toUInt32 >>> 1).toNat = m / 2
  rw [UInt32.toNat_shiftRight]
  show (zI (m : Int)).toBitVec.toNat >>> 1 = m / 2
  rw [zN_bv h1, Nat.shiftRight_eq_div_pow]
section
variable {G : Nat → Option Cl} {rk : Value → Int} {d : Nat} {H : AH} {e N lo hi i : Nat} {f g : Nat → Value} {v w : Value}
theorem acp2 {a e t n1 t2 n2 sp dp k : Nat} (ha : jm H a = some (t, n1, f)) (hb : jm H e = some (t2, n2, g)) (hc : cpOk t t2 = true) (s1 : sp + k ≤ n1) (d1 : dp + k ≤ n2) (l1 : n1 < 2147483648) (l2 : n2 < 2147483648) :
    M2 (d + 1) 90001 [.ref a, .int (zI sp), .ref e, .int (zI dp), .int (zI k)] H = some (.inl none, jset H e (t2, n2, jcpy f g sp dp k)) := by
  rw [M2, if_neg (by decide), if_pos (by decide)]
  simp only [jprim, ha, hb]
  have p : ∀ z : Nat, z < 2147483648 → ¬ zI z < 0 := fun z z1 => by rw [zI_lit0, zI_lt (by omega) (by omega) (by omega) (by omega)]; omega
  rw [zI_clamp (by omega) (by omega), zI_clamp (by omega) (by omega), zI_clamp (by omega) (by omega)]
  simp only [Int.toNat_natCast]
  rw [if_pos ⟨hc, p sp (by omega), p dp (by omega), p k (by omega), by omega, by omega⟩]
/-- where it is put in -/
theorem bs_loop (hG : Fzn G H) (hN : N < 100000) (he : jm H e = some (1040, N, f)) {st : Nat} (hst : st < N) {hi : Int} (hA : OkA G rk f lo (st - lo)) (hv : Cmp G v (rk v)) (hs : SrtA rk f lo (st - lo)) : ∀ (m l r : Nat) (v7 : Value), lo ≤ l → l ≤ r → r ≤ st → r - l ≤ m → (∀ i, lo ≤ i → i < l → rk (f i) ≤ rk v) → (∀ i, r ≤ i → i < st → rk v ≤ rk (f i)) →
    ∃ p, lo ≤ p ∧ p ≤ st ∧ (∀ i, lo ≤ i → i < p → rk (f i) ≤ rk v) ∧ (∀ i, p ≤ i → i < st → rk v ≤ rk (f i)) ∧ G2 (d + 2) 72000 72 [.ref e, .int (zI lo), .int (zI hi), .int (zI st), v, .int (zI l), .int (zI r), v7] [] H = G2 (d + 2) 72000 (lkT (zI ((st - p : Nat) : Int)) [(1, 184), (2, 172)] 197) [.ref e, .int (zI lo), .int (zI hi), .int (zI st), v, .int (zI p), .int (zI p), .int (zI ((st - p : Nat) : Int))] [] H := by
  intro m
  induction m using Nat.strongRecOn with
  | ind m ih =>
    intro l r v7 h1 h2 h3 h4 h5 h6
    have rv := hv.R
    by_cases hlr : r ≤ l
    · have : l = r := by omega
      subst this
      refine ⟨l, h1, h3, h5, h6, ?_⟩
      conv => lhs; rw [F72000_72]
      simp (disch := first | assumption | omega | decide | exact okF_i | exact okF_r | exact okF_n | exact okF_j | rfl) only [jc_ref, rI_int, rR_ref, rR_null, rJ_long, ckR_ref, ckR_null, ckr_ref, ckr_null, ckW_int, ckW_ref, ckW_null, cI_ok, cR_ok, cR_null, cV_ok, cJ_ok, qH_eq, qD_in, aG_ref, aS_ref, aL_ref, pF_ref, cK_ref, cK_null, zI_lit, zJ_lit, zI_add, zI_sub, zI_mul, zI_neg, zI_eq, zI_lt, zI_le, Int.reduceLT, Int.reduceLE, Int.reduceAdd, Int.reduceSub, Int.reduceMul, Int.reduceNeg, Int.reduceEq, Int.reduceNe, reduceIte, jf_in, pFc_in, aGi, aGb, aSi, aLc_in, cKc_in, nA_in, jm_s1, jm_s2, jm_p1, jm_p2, jm_b, jn_b, jn_s, jn_p, jset_jset, jset_jpush2, ckR_is, ckr_is, rR_is, ckW_is, cR_is, obi2, ckW_int, eq_self, if_true, ref_null, if_false, ne_eq, not_true_eq_false, not_false_eq_true, decide_true, decide_false, decide_not, Bool.true_and, Bool.false_and, Bool.and_true, Bool.and_false, Bool.true_or, Bool.false_or, Bool.or_true, Bool.or_false, Bool.not_true, Bool.not_false, Bool.false_eq_true, bI_t, bI_f, Int.natCast_one, Int.cast_ofNat_Int, Int.natCast_zero, aGc_V, Int.toNat_natCast]
      rw [if_pos (by omega), show (st : Int) - l = ((st - l : Nat) : Int) by omega]
    · have cm : ((l : Int) + r) = ((l + r : Nat) : Int) := by omega
      have sh := ushr1 (m := l + r) (by omega)
      have a1 := hA ((l + r) / 2) (by omega) (by omega)
      have r1 := a1.R
      obtain ⟨c, c1, c2, c3, c4⟩ := c_cmp (d := d) hG hv a1
      have cx : (((l + r) / 2 : Nat) : Int) + 1 = (((l + r) / 2 + 1 : Nat) : Int) := by omega
      by_cases hc : 0 ≤ c
      · obtain ⟨p, p1, p2, p3, p4, p5⟩ := ih (r - ((l + r) / 2 + 1)) (by omega) ((l + r) / 2 + 1) r (.int (zI (((l + r) / 2 : Nat) : Int))) (by omega) (by omega) h3 (Nat.le_refl _) (fun i a b => by
          have := hs i ((l + r) / 2) a (by omega) (by omega)
          omega) h6
        refine ⟨p, p1, p2, p3, p4, ?_⟩
        conv => lhs; rw [F72000_72]
        simp (disch := first | assumption | omega | decide | exact okF_i | exact okF_r | exact okF_n | exact okF_j | rfl) only [jc_ref, rI_int, rR_ref, rR_null, rJ_long, ckR_ref, ckR_null, ckr_ref, ckr_null, ckW_int, ckW_ref, ckW_null, cI_ok, cR_ok, cR_null, cV_ok, cJ_ok, qH_eq, qD_in, aG_ref, aS_ref, aL_ref, pF_ref, cK_ref, cK_null, zI_lit, zJ_lit, zI_add, zI_sub, zI_mul, zI_neg, zI_eq, zI_lt, zI_le, Int.reduceLT, Int.reduceLE, Int.reduceAdd, Int.reduceSub, Int.reduceMul, Int.reduceNeg, Int.reduceEq, Int.reduceNe, reduceIte, jf_in, pFc_in, aGi, aGb, aSi, aLc_in, cKc_in, nA_in, jm_s1, jm_s2, jm_p1, jm_p2, jm_b, jn_b, jn_s, jn_p, jset_jset, jset_jpush2, ckR_is, ckr_is, rR_is, ckW_is, cR_is, obi2, ckW_int, eq_self, if_true, ref_null, if_false, ne_eq, not_true_eq_false, not_false_eq_true, decide_true, decide_false, decide_not, Bool.true_and, Bool.false_and, Bool.and_true, Bool.and_false, Bool.true_or, Bool.false_or, Bool.or_true, Bool.or_false, Bool.not_true, Bool.not_false, Bool.false_eq_true, bI_t, bI_f, Int.natCast_one, Int.cast_ofNat_Int, Int.natCast_zero, aGc_V, Int.toNat_natCast, cm, sh, he, c1]
        rw [if_neg (by omega), if_pos hc, cx]
        exact p5
      · obtain ⟨p, p1, p2, p3, p4, p5⟩ := ih ((l + r) / 2 - l) (by omega) l ((l + r) / 2) (.int (zI (((l + r) / 2 : Nat) : Int))) (by omega) (by omega) (by omega) (Nat.le_refl _) h5 (fun i a b => by
          have := hs ((l + r) / 2) i (by omega) a (by omega)
          omega)
        refine ⟨p, p1, p2, p3, p4, ?_⟩
        conv => lhs; rw [F72000_72]
        simp (disch := first | assumption | omega | decide | exact okF_i | exact okF_r | exact okF_n | exact okF_j | rfl) only [jc_ref, rI_int, rR_ref, rR_null, rJ_long, ckR_ref, ckR_null, ckr_ref, ckr_null, ckW_int, ckW_ref, ckW_null, cI_ok, cR_ok, cR_null, cV_ok, cJ_ok, qH_eq, qD_in, aG_ref, aS_ref, aL_ref, pF_ref, cK_ref, cK_null, zI_lit, zJ_lit, zI_add, zI_sub, zI_mul, zI_neg, zI_eq, zI_lt, zI_le, Int.reduceLT, Int.reduceLE, Int.reduceAdd, Int.reduceSub, Int.reduceMul, Int.reduceNeg, Int.reduceEq, Int.reduceNe, reduceIte, jf_in, pFc_in, aGi, aGb, aSi, aLc_in, cKc_in, nA_in, jm_s1, jm_s2, jm_p1, jm_p2, jm_b, jn_b, jn_s, jn_p, jset_jset, jset_jpush2, ckR_is, ckr_is, rR_is, ckW_is, cR_is, obi2, ckW_int, eq_self, if_true, ref_null, if_false, ne_eq, not_true_eq_false, not_false_eq_true, decide_true, decide_false, decide_not, Bool.true_and, Bool.false_and, Bool.and_true, Bool.and_false, Bool.true_or, Bool.false_or, Bool.or_true, Bool.or_false, Bool.not_true, Bool.not_false, Bool.false_eq_true, bI_t, bI_f, Int.natCast_one, Int.cast_ofNat_Int, Int.natCast_zero, aGc_V, Int.toNat_natCast, cm, sh, he, c1]
        rw [if_neg (by omega), if_neg hc]
        exact p5
theorem lk_bin {n : Nat} (h : n < 100000) : lkT (zI (n : Int)) [(1, 184), (2, 172)] 197 = if n = 1 then 184 else if n = 2 then 172 else 197 := by
  simp only [lkT]
  rw [zI_toInt (by omega) (by omega)]
  by_cases h1 : n = 1
  · rw [if_pos (by omega), if_pos h1]
  · rw [if_neg (by omega), if_neg h1]
    by_cases h2 : n = 2
    · rw [if_pos (by omega), if_pos h2]
    · rw [if_neg (by omega), if_neg h2]
theorem ins_step (hG : Fzn G H) (hGe : G e = none) (hN : N < 100000) (he : jm H e = some (1040, N, f)) {st p : Nat} (hst : st < N) (hp : p ≤ st) {lo hi : Int} (hA : ∀ i, p ≤ i → i < st → okH H (f i) ∧ isR (f i) = true) (hv : okH H v) (hvr : isR v = true) :
    ∃ g, G2 (d + 2) 72000 (lkT (zI ((st - p : Nat) : Int)) [(1, 184), (2, 172)] 197) [.ref e, .int (zI lo), .int (zI hi), .int (zI st), v, .int (zI p), .int (zI p), .int (zI ((st - p : Nat) : Int))] [] H = G2 (d + 2) 72000 32 [.ref e, .int (zI lo), .int (zI hi), .int (zI (st + 1 : Nat)), v, .int (zI p), .int (zI p), .int (zI ((st - p : Nat) : Int))] [] (jset H e (1040, N, g)) ∧ g p = v ∧ (∀ i, p < i → i ≤ st → g i = f (i - 1)) ∧ ∀ i, i < p ∨ st < i → g i = f i := by
  rw [lk_bin (by omega)]
  have cs : (st : Int) + 1 = ((st + 1 : Nat) : Int) := by omega
  have cp : (p : Int) + 1 = ((p + 1 : Nat) : Int) := by omega
  have cp2 : (p : Int) + 2 = ((p + 2 : Nat) : Int) := by omega
  -- the second half: one thing moved, then it is put in
  have one : ∀ (H : AH) (f : Nat → Value), jm H e = some (1040, N, f) → p + 1 < N → okH H (f p) ∧ isR (f p) = true → okH H v → ∃ g, G2 (d + 2) 72000 184 [.ref e, .int (zI lo), .int (zI hi), .int (zI st), v, .int (zI p), .int (zI p), .int (zI ((st - p : Nat) : Int))] [] H = G2 (d + 2) 72000 32 [.ref e, .int (zI lo), .int (zI hi), .int (zI (st + 1 : Nat)), v, .int (zI p), .int (zI p), .int (zI ((st - p : Nat) : Int))] [] (jset H e (1040, N, g)) ∧ g p = v ∧ g (p + 1) = f p ∧ ∀ i, i ≠ p → i ≠ p + 1 → g i = f i := fun H f he hpn o hv => by
    have r1 := o.2
    have s1 := fun (κ : AH → Rz) (u : Ph κ) => aSr_in (κ := κ) (u := u) he o.1 (i := ((p + 1 : Nat) : Int)) (by omega) (by omega) (by omega)
    have m1 : jm (jset H e (1040, N, ju f (p + 1) (f p))) e = some (1040, N, ju f (p + 1) (f p)) := jm_s1
    have s2 := fun (κ : AH → Rz) (u : Ph κ) => aSr_in (κ := κ) (u := u) m1 (okH_hi hv he (Nat.le_of_ble_eq_true rfl)) (i := p) (by omega) (by omega) (by omega)
    refine ⟨ju (ju f (p + 1) (f p)) p v, ?_, juE, by rw [juN (by omega), juE], fun i a b => by rw [juN a, juN b]⟩
    conv => lhs; rw [F72000_184]
    simp (disch := first | assumption | omega | decide | exact okF_i | exact okF_r | exact okF_n | exact okF_j | rfl) only [jc_ref, rI_int, rR_ref, rR_null, rJ_long, ckR_ref, ckR_null, ckr_ref, ckr_null, ckW_int, ckW_ref, ckW_null, cI_ok, cR_ok, cR_null, cV_ok, cJ_ok, qH_eq, qD_in, aG_ref, aS_ref, aL_ref, pF_ref, cK_ref, cK_null, zI_lit, zJ_lit, zI_add, zI_sub, zI_mul, zI_neg, zI_eq, zI_lt, zI_le, Int.reduceLT, Int.reduceLE, Int.reduceAdd, Int.reduceSub, Int.reduceMul, Int.reduceNeg, Int.reduceEq, Int.reduceNe, reduceIte, jf_in, pFc_in, aGi, aGb, aSi, aLc_in, cKc_in, nA_in, jm_s1, jm_s2, jm_p1, jm_p2, jm_b, jn_b, jn_s, jn_p, jset_jset, jset_jpush2, ckR_is, ckr_is, rR_is, ckW_is, cR_is, obi2, ckW_int, eq_self, if_true, ref_null, if_false, ne_eq, not_true_eq_false, not_false_eq_true, decide_true, decide_false, decide_not, Bool.true_and, Bool.false_and, Bool.and_true, Bool.and_false, Bool.true_or, Bool.false_or, Bool.or_true, Bool.or_false, Bool.not_true, Bool.not_false, Bool.false_eq_true, bI_t, bI_f, Int.natCast_one, Int.cast_ofNat_Int, Int.natCast_zero, aGc_V, Int.toNat_natCast, he, cp, s1, s2, m1, cs]
  by_cases h1 : st - p = 1
  · rw [if_pos h1]
    obtain ⟨g, g1, g2, g3, g4⟩ := one H f he (by omega) (hA p (Nat.le_refl _) (by omega)) hv
    refine ⟨g, g1, g2, fun i a b => ?_, fun i a => g4 i (by omega) (by omega)⟩
    rw [show i = p + 1 by omega]; exact g3
  · rw [if_neg h1]
    by_cases h2 : st - p = 2
    · rw [if_pos h2]
      obtain ⟨o1, r1⟩ := hA (p + 1) (by omega) (by omega)
      obtain ⟨o2, r2⟩ := hA p (by omega) (by omega)
      have s1 := fun (κ : AH → Rz) (u : Ph κ) => aSr_in (κ := κ) (u := u) he o1 (i := ((p + 2 : Nat) : Int)) (by omega) (by omega) (by omega)
      have m1 : jm (jset H e (1040, N, ju f (p + 2) (f (p + 1)))) e = some (1040, N, ju f (p + 2) (f (p + 1))) := jm_s1
      obtain ⟨g, g1, g2, g3, g4⟩ := one _ _ m1 (by omega) (by rw [juN (by omega)]; exact ⟨okH_hi o2 he (Nat.le_of_ble_eq_true rfl), r2⟩) (okH_hi hv he (Nat.le_of_ble_eq_true rfl))
      rw [jset_jset] at g1
      refine ⟨g, ?_, g2, fun i a b => ?_, fun i a => by rw [g4 i (by omega) (by omega), juN (by omega)]⟩
      · conv => lhs; rw [F72000_172]
        simp (disch := first | assumption | omega | decide | exact okF_i | exact okF_r | exact okF_n | exact okF_j | rfl) only [jc_ref, rI_int, rR_ref, rR_null, rJ_long, ckR_ref, ckR_null, ckr_ref, ckr_null, ckW_int, ckW_ref, ckW_null, cI_ok, cR_ok, cR_null, cV_ok, cJ_ok, qH_eq, qD_in, aG_ref, aS_ref, aL_ref, pF_ref, cK_ref, cK_null, zI_lit, zJ_lit, zI_add, zI_sub, zI_mul, zI_neg, zI_eq, zI_lt, zI_le, Int.reduceLT, Int.reduceLE, Int.reduceAdd, Int.reduceSub, Int.reduceMul, Int.reduceNeg, Int.reduceEq, Int.reduceNe, reduceIte, jf_in, pFc_in, aGi, aGb, aSi, aLc_in, cKc_in, nA_in, jm_s1, jm_s2, jm_p1, jm_p2, jm_b, jn_b, jn_s, jn_p, jset_jset, jset_jpush2, ckR_is, ckr_is, rR_is, ckW_is, cR_is, obi2, ckW_int, eq_self, if_true, ref_null, if_false, ne_eq, not_true_eq_false, not_false_eq_true, decide_true, decide_false, decide_not, Bool.true_and, Bool.false_and, Bool.and_true, Bool.and_false, Bool.true_or, Bool.false_or, Bool.or_true, Bool.or_false, Bool.not_true, Bool.not_false, Bool.false_eq_true, bI_t, bI_f, Int.natCast_one, Int.cast_ofNat_Int, Int.natCast_zero, aGc_V, Int.toNat_natCast, he, cp, cp2, s1]
        exact g1
      · by_cases hi : i = p + 1
        · rw [hi, g3, juN (by omega)]; rfl
        · rw [g4 i (by omega) hi, show i = p + 2 by omega, juE]; rfl
    · rw [if_neg h2]
      have cpy := acp2 (d := d + 1) (sp := p) (dp := p + 1) (k := st - p) he he rfl (by omega) (by omega) (by omega) (by omega)
      have m1 : jm (jset H e (1040, N, jcpy f f p (p + 1) (st - p))) e = some (1040, N, jcpy f f p (p + 1) (st - p)) := jm_s1
      have s2 := fun (κ : AH → Rz) (u : Ph κ) => aSr_in (κ := κ) (u := u) m1 (okH_hi hv he (Nat.le_of_ble_eq_true rfl)) (i := p) (by omega) (by omega) (by omega)
      refine ⟨ju (jcpy f f p (p + 1) (st - p)) p v, ?_, juE, fun i a b => ?_, fun i a => ?_⟩
      · conv => lhs; rw [F72000_197]
        simp (disch := first | assumption | omega | decide | exact okF_i | exact okF_r | exact okF_n | exact okF_j | rfl) only [jc_ref, rI_int, rR_ref, rR_null, rJ_long, ckR_ref, ckR_null, ckr_ref, ckr_null, ckW_int, ckW_ref, ckW_null, cI_ok, cR_ok, cR_null, cV_ok, cJ_ok, qH_eq, qD_in, aG_ref, aS_ref, aL_ref, pF_ref, cK_ref, cK_null, zI_lit, zJ_lit, zI_add, zI_sub, zI_mul, zI_neg, zI_eq, zI_lt, zI_le, Int.reduceLT, Int.reduceLE, Int.reduceAdd, Int.reduceSub, Int.reduceMul, Int.reduceNeg, Int.reduceEq, Int.reduceNe, reduceIte, jf_in, pFc_in, aGi, aGb, aSi, aLc_in, cKc_in, nA_in, jm_s1, jm_s2, jm_p1, jm_p2, jm_b, jn_b, jn_s, jn_p, jset_jset, jset_jpush2, ckR_is, ckr_is, rR_is, ckW_is, cR_is, obi2, ckW_int, eq_self, if_true, ref_null, if_false, ne_eq, not_true_eq_false, not_false_eq_true, decide_true, decide_false, decide_not, Bool.true_and, Bool.false_and, Bool.and_true, Bool.and_false, Bool.true_or, Bool.false_or, Bool.or_true, Bool.or_false, Bool.not_true, Bool.not_false, Bool.false_eq_true, bI_t, bI_f, Int.natCast_one, Int.cast_ofNat_Int, Int.natCast_zero, aGc_V, Int.toNat_natCast, cp, cpy, s2, cs]
      · rw [juN (by omega), jcpy, if_pos ⟨by omega, by omega⟩]; congr 1; omega
      · rw [juN (by omega), jcpy, if_neg (by omega)]
theorem bn_loop (hGe : G e = none) (hN : N < 100000) {hi : Nat} (hhi : hi ≤ N) (f0 : Nat → Value) : ∀ (m st : Nat) (H : AH) (f : Nat → Value) (v4 v5 v6 v7 : Value), Fzn G H → st + m = hi → lo < st → jm H e = some (1040, N, f) → OkA G rk f lo (hi - lo) → SrtA rk f lo (st - lo) → PmR f0 f lo (hi - lo) →
    ∃ g, G2 (d + 2) 72000 32 [.ref e, .int (zI lo), .int (zI hi), .int (zI st), v4, v5, v6, v7] [] H = some (.inl none, jset H e (1040, N, g)) ∧ SrtA rk g lo (hi - lo) ∧ PmR f0 g lo (hi - lo) := by
  intro m
  induction m with
  | zero =>
    intro st H f v4 v5 v6 v7 hG h1 h2 he hA hs hp
    refine ⟨f, ?_, by rw [show hi - lo = st - lo by omega]; exact hs, hp⟩
    rw [F72000_32]
    simp (disch := first | assumption | omega | decide | exact okF_i | exact okF_r | exact okF_n | exact okF_j | rfl) only [jc_ref, rI_int, rR_ref, rR_null, rJ_long, ckR_ref, ckR_null, ckr_ref, ckr_null, ckW_int, ckW_ref, ckW_null, cI_ok, cR_ok, cR_null, cV_ok, cJ_ok, qH_eq, qD_in, aG_ref, aS_ref, aL_ref, pF_ref, cK_ref, cK_null, zI_lit, zJ_lit, zI_add, zI_sub, zI_mul, zI_neg, zI_eq, zI_lt, zI_le, Int.reduceLT, Int.reduceLE, Int.reduceAdd, Int.reduceSub, Int.reduceMul, Int.reduceNeg, Int.reduceEq, Int.reduceNe, reduceIte, jf_in, pFc_in, aGi, aGb, aSi, aLc_in, cKc_in, nA_in, jm_s1, jm_s2, jm_p1, jm_p2, jm_b, jn_b, jn_s, jn_p, jset_jset, jset_jpush2, ckR_is, ckr_is, rR_is, ckW_is, cR_is, obi2, ckW_int, eq_self, if_true, ref_null, if_false, ne_eq, not_true_eq_false, not_false_eq_true, decide_true, decide_false, decide_not, Bool.true_and, Bool.false_and, Bool.and_true, Bool.and_false, Bool.true_or, Bool.false_or, Bool.or_true, Bool.or_false, Bool.not_true, Bool.not_false, Bool.false_eq_true, bI_t, bI_f, Int.natCast_one, Int.cast_ofNat_Int, Int.natCast_zero, aGc_V, Int.toNat_natCast]
    rw [if_pos (by omega), jset_id he]
  | succ m ih =>
    intro st H f v4 v5 v6 v7 hG h1 h2 he hA hs hp
    have hv := hA st (by omega) (by omega)
    have rv := hv.R
    obtain ⟨p, p1, p2, p3, p4, p5⟩ := bs_loop (d := d) (v := f st) hG hN he (st := st) (by omega) (hi := hi) (fun i a b => hA i a (by omega)) hv hs (st - lo) lo st v7 (Nat.le_refl _) (by omega) (Nat.le_refl _) (Nat.le_refl _) (fun i a b => by omega) (fun i a b => by omega)
    obtain ⟨g, g1, g2, g3, g4⟩ := ins_step (d := d) hG hGe hN he (st := st) (p := p) (by omega) p2 (lo := lo) (hi := hi) (fun i a b => ⟨(hA i (by omega) (by omega)).ok hG, (hA i (by omega) (by omega)).R⟩) (hv.ok hG) rv
    have pm : PmR f g p (st - p + 1) := PmR.ins (by rw [g2]; congr 1; omega) (fun i a b => g3 i a (by omega)) (fun i a => g4 i (by omega))
    have pm2 : PmR f g lo (hi - lo) := pm.wd p1 (by omega)
    have hk := fun (κ : Rz) (u : Ph κ) => cmp_K hG hv (κ := κ) (u := u)
    obtain ⟨g', i1, i2, i3⟩ := ih (st + 1) (jset H e (1040, N, g)) g (f st) (.int (zI p)) (.int (zI p)) (.int (zI ((st - p : Nat) : Int))) (hG.arr hGe) (by omega) (by omega) jm_s1 (pm2.mem (P := fun v => Cmp G v (rk v)) hA) (fun i j a b c => by
      by_cases hjp : j < p
      · rw [g4 i (by omega), g4 j (by omega)]
        exact hs i j a b (by omega)
      · by_cases hj : j = p
        · rw [hj, g2]
          by_cases hi : i = p
          · rw [hi, g2]; exact Int.le_refl _
          · rw [g4 i (by omega)]; exact p3 i a (by omega)
        · rw [g3 j (by omega) (by omega)]
          by_cases hip : i < p
          · rw [g4 i (by omega)]
            exact hs i (j - 1) a (by omega) (by omega)
          · by_cases hi : i = p
            · rw [hi, g2]; exact p4 (j - 1) (by omega) (by omega)
            · rw [g3 i (by omega) (by omega)]
              exact hs (i - 1) (j - 1) (by omega) (by omega) (by omega)) (hp.tr pm2)
    refine ⟨g', ?_, i2, i3⟩
    rw [jset_jset] at i1
    have h0 : ∀ (κ κ2 : Rz), (if (1 : Int32) = 0 then κ else κ2) = κ2 := fun κ κ2 => if_neg (by decide)
    rw [F72000_32]
    simp (disch := first | assumption | omega | decide | exact okF_i | exact okF_r | exact okF_n | exact okF_j | rfl) only [jc_ref, rI_int, rR_ref, rR_null, rJ_long, ckR_ref, ckR_null, ckr_ref, ckr_null, ckW_int, ckW_ref, ckW_null, cI_ok, cR_ok, cR_null, cV_ok, cJ_ok, qH_eq, qD_in, aG_ref, aS_ref, aL_ref, pF_ref, cK_ref, cK_null, zI_lit, zJ_lit, zI_add, zI_sub, zI_mul, zI_neg, zI_eq, zI_lt, zI_le, Int.reduceLT, Int.reduceLE, Int.reduceAdd, Int.reduceSub, Int.reduceMul, Int.reduceNeg, Int.reduceEq, Int.reduceNe, reduceIte, jf_in, pFc_in, aGi, aGb, aSi, aLc_in, cKc_in, nA_in, jm_s1, jm_s2, jm_p1, jm_p2, jm_b, jn_b, jn_s, jn_p, jset_jset, jset_jpush2, ckR_is, ckr_is, rR_is, ckW_is, cR_is, obi2, ckW_int, eq_self, if_true, ref_null, if_false, ne_eq, not_true_eq_false, not_false_eq_true, decide_true, decide_false, decide_not, Bool.true_and, Bool.false_and, Bool.and_true, Bool.and_false, Bool.true_or, Bool.false_or, Bool.or_true, Bool.or_false, Bool.not_true, Bool.not_false, Bool.false_eq_true, bI_t, bI_f, Int.natCast_one, Int.cast_ofNat_Int, Int.natCast_zero, aGc_V, Int.toNat_natCast, he, hk]
    rw [if_neg (by omega)]
    exact p5.trans (g1.trans i1)
theorem c_bin (hG : Fzn G H) (hGe : G e = none) (hN : N < 100000) {lo hi st : Nat} (hhi : hi ≤ N) (h1 : lo ≤ st) (h2 : st ≤ hi) (he : jm H e = some (1040, N, f)) (hA : OkA G rk f lo (hi - lo)) (hs : SrtA rk f lo (st - lo)) (h3 : lo < hi) :
    ∃ g, M2 (d + 3) 72000 [.ref e, .int (zI lo), .int (zI hi), .int (zI st)] H = some (.inl none, jset H e (1040, N, g)) ∧ SrtA rk g lo (hi - lo) ∧ PmR f g lo (hi - lo) := by
  rw [Y72000 H rfl, F72000_0]
  by_cases hst : st = lo
  · obtain ⟨g, g1, g2, g3⟩ := bn_loop (d := d) (rk := rk) (lo := lo) hGe hN hhi f (hi - (st + 1)) (st + 1) H f jno jno jno jno hG (by omega) (by omega) he hA (fun i j a b c => by rw [show i = j by omega]; exact Int.le_refl _) PmR.rf
    refine ⟨g, ?_, g2, g3⟩
    have cs : (st : Int) + 1 = ((st + 1 : Nat) : Int) := by omega
    simp (disch := first | assumption | omega | decide | exact okF_i | exact okF_r | exact okF_n | exact okF_j | rfl) only [jc_ref, rI_int, rR_ref, rR_null, rJ_long, ckR_ref, ckR_null, ckr_ref, ckr_null, ckW_int, ckW_ref, ckW_null, cI_ok, cR_ok, cR_null, cV_ok, cJ_ok, qH_eq, qD_in, aG_ref, aS_ref, aL_ref, pF_ref, cK_ref, cK_null, zI_lit, zJ_lit, zI_add, zI_sub, zI_mul, zI_neg, zI_eq, zI_lt, zI_le, Int.reduceLT, Int.reduceLE, Int.reduceAdd, Int.reduceSub, Int.reduceMul, Int.reduceNeg, Int.reduceEq, Int.reduceNe, reduceIte, jf_in, pFc_in, aGi, aGb, aSi, aLc_in, cKc_in, nA_in, jm_s1, jm_s2, jm_p1, jm_p2, jm_b, jn_b, jn_s, jn_p, jset_jset, jset_jpush2, ckR_is, ckr_is, rR_is, ckW_is, cR_is, obi2, ckW_int, eq_self, if_true, ref_null, if_false, ne_eq, not_true_eq_false, not_false_eq_true, decide_true, decide_false, decide_not, Bool.true_and, Bool.false_and, Bool.and_true, Bool.and_false, Bool.true_or, Bool.false_or, Bool.or_true, Bool.or_false, Bool.not_true, Bool.not_false, Bool.false_eq_true, bI_t, bI_f, Int.natCast_one, Int.cast_ofNat_Int, Int.natCast_zero, aGc_V, Int.toNat_natCast, cs]
    rw [if_pos (by omega)]
    exact g1
  · obtain ⟨g, g1, g2, g3⟩ := bn_loop (d := d) (rk := rk) (lo := lo) hGe hN hhi f (hi - st) st H f jno jno jno jno hG (by omega) (by omega) he hA hs PmR.rf
    refine ⟨g, ?_, g2, g3⟩
    simp (disch := first | assumption | omega | decide | exact okF_i | exact okF_r | exact okF_n | exact okF_j | rfl) only [jc_ref, rI_int, rR_ref, rR_null, rJ_long, ckR_ref, ckR_null, ckr_ref, ckr_null, ckW_int, ckW_ref, ckW_null, cI_ok, cR_ok, cR_null, cV_ok, cJ_ok, qH_eq, qD_in, aG_ref, aS_ref, aL_ref, pF_ref, cK_ref, cK_null, zI_lit, zJ_lit, zI_add, zI_sub, zI_mul, zI_neg, zI_eq, zI_lt, zI_le, Int.reduceLT, Int.reduceLE, Int.reduceAdd, Int.reduceSub, Int.reduceMul, Int.reduceNeg, Int.reduceEq, Int.reduceNe, reduceIte, jf_in, pFc_in, aGi, aGb, aSi, aLc_in, cKc_in, nA_in, jm_s1, jm_s2, jm_p1, jm_p2, jm_b, jn_b, jn_s, jn_p, jset_jset, jset_jpush2, ckR_is, ckr_is, rR_is, ckW_is, cR_is, obi2, ckW_int, eq_self, if_true, ref_null, if_false, ne_eq, not_true_eq_false, not_false_eq_true, decide_true, decide_false, decide_not, Bool.true_and, Bool.false_and, Bool.and_true, Bool.and_false, Bool.true_or, Bool.false_or, Bool.or_true, Bool.or_false, Bool.not_true, Bool.not_false, Bool.false_eq_true, bI_t, bI_f, Int.natCast_one, Int.cast_ofNat_Int, Int.natCast_zero, aGc_V, Int.toNat_natCast]
    rw [if_neg (by omega)]
    exact g1
end
