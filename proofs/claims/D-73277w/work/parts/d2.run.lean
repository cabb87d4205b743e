/-! sort: a run at an array's head; turning round -/
-- jc_ref, rI_int, rR_ref, rR_null, rJ_long, ckR_ref, ckR_null, ckr_ref, ckr_null, ckW_int, ckW_ref, ckW_null, cI_ok, cR_ok, cR_null, cV_ok, cJ_ok, qH_eq, qD_in, aG_ref, aS_ref, aL_ref, pF_ref, cK_ref, cK_null, zI_lit, zJ_lit, zI_add, zI_sub, zI_mul, zI_neg, zI_eq, zI_lt, zI_le, Int.reduceLT, Int.reduceLE, Int.reduceAdd, Int.reduceSub, Int.reduceMul, Int.reduceNeg, Int.reduceEq, Int.reduceNe, reduceIte, jf_in, pFc_in, aGi, aGb, aSi, aLc_in, cKc_in, nA_in, jm_s1, jm_s2, jm_p1, jm_p2, jm_b, jn_b, jn_s, jn_p, jset_jset, jset_jpush2, ckR_is, ckr_is, rR_is, ckW_is, cR_is, obi2, ckW_int, eq_self, if_true, ref_null, if_false, ne_eq, not_true_eq_false, not_false_eq_true, decide_true, decide_false, decide_not, Bool.true_and, Bool.false_and, Bool.and_true, Bool.and_false, Bool.true_or, Bool.false_or, Bool.or_true, Bool.or_false, Bool.not_true, Bool.not_false, Bool.false_eq_true, bI_t, bI_f, Int.natCast_one, Int.cast_ofNat_Int, Int.natCast_zero, aGc_V, Int.toNat_natCast = jc_ref, rI_int, rR_ref, rR_null, rJ_long, ckR_ref, ckR_null, ckr_ref, ckr_null, ckW_int, ckW_ref, ckW_null, cI_ok, cR_ok, cR_null, cV_ok, cJ_ok, qH_eq, qD_in, aG_ref, aS_ref, aL_ref, pF_ref, cK_ref, cK_null, zI_lit, zJ_lit, zI_add, zI_sub, zI_mul, zI_neg, zI_eq, zI_lt, zI_le, Int.reduceLT, Int.reduceLE, Int.reduceAdd, Int.reduceSub, Int.reduceMul, Int.reduceNeg, Int.reduceEq, Int.reduceNe, reduceIte, jf_in, pFc_in, aGi, aGb, aSi, aLc_in, cKc_in, nA_in, jm_s1, jm_s2, jm_p1, jm_p2, jm_b, jn_b, jn_s, jn_p, jset_jset, jset_jpush2, ckR_is, ckr_is, rR_is, ckW_is, cR_is, obi2, ckW_int, eq_self, if_true, ref_null, if_false, ne_eq, not_true_eq_false, not_false_eq_true, decide_true, decide_false, decide_not, Bool.true_and, Bool.false_and, Bool.and_true, Bool.and_false, Bool.true_or, Bool.false_or, Bool.or_true, Bool.or_false, Bool.not_true, Bool.not_false, Bool.false_eq_true, bI_t, bI_f, Int.natCast_one, Int.cast_ofNat_Int, Int.natCast_zero, aGc_V, Int.toNat_natCast
def SrtA (rk : Value → Int) (f : Nat → Value) (lo n : Nat) : Prop := ∀ i j, lo ≤ i → i ≤ j → j < lo + n → rk (f i) ≤ rk (f j)
def OkA (G : Nat → Option Cl) (rk : Value → Int) (f : Nat → Value) (lo n : Nat) : Prop := ∀ i, lo ≤ i → i < lo + n → Cmp G (f i) (rk (f i))
theorem SrtA.ext {rk : Value → Int} {f : Nat → Value} {lo n : Nat} (h : SrtA rk f lo n) (hn : n = 0 ∨ rk (f (lo + n - 1)) ≤ rk (f (lo + n))) : SrtA rk f lo (n + 1) := fun i j hi hij hj => by
  by_cases hj2 : j < lo + n
  · exact h i j hi hij hj2
  · have : j = lo + n := by omega
    subst this
    by_cases hi2 : i = lo + n
    · rw [hi2]; exact Int.le_refl _
    · rcases hn with hn | hn
      · omega
      · exact Int.le_trans (h i (lo + n - 1) hi (by omega) (by omega)) hn
theorem juN {f : Nat → Value} {i k : Nat} {v : Value} (h : k ≠ i) : ju f i v k = f k := by unfold ju; rw [if_neg h]
theorem juE {f : Nat → Value} {i : Nat} {v : Value} : ju f i v i = v := by unfold ju; rw [if_pos rfl]
section
variable {G : Nat → Option Cl} {rk : Value → Int} {d : Nat} {H : AH} {e N lo hi i : Nat} {f : Nat → Value} {v w : Value}
theorem Fzn.arr (hG : Fzn G H) (hGe : G e = none) {c : Cl} : Fzn G (jset H e c) := hG.fr (P := fun x => x = e) (Fr.set rfl) fun q hq => by rw [hq]; exact hGe
theorem rv_loop (hN : N < 100000) : ∀ (m lo hi : Nat) (H : AH) (f : Nat → Value) (v3 : Value), lo ≤ hi + 1 → hi < N → hi + 1 - lo ≤ m → jm H e = some (1040, N, f) → (∀ i, lo ≤ i → i ≤ hi → okH H (f i) ∧ isR (f i) = true) →
    ∃ g, G2 d 72012 3 [.ref e, .int (zI lo), .int (zI hi), v3] [] H = some (.inl none, jset H e (1040, N, g)) ∧ (∀ i, lo ≤ i → i ≤ hi → g i = f (lo + hi - i)) ∧ ∀ i, i < lo ∨ hi < i → g i = f i := by
  intro m
  induction m using Nat.strongRecOn with
  | ind m ih =>
    intro lo hi H f v3 h1 h2 h3 he hok
    by_cases hlh : hi ≤ lo
    · refine ⟨f, ?_, fun i a b => by rw [show lo + hi - i = i by omega], fun _ _ => rfl⟩
      rw [F72012_3]
      simp (disch := first | assumption | omega | decide | exact okF_i | exact okF_r | exact okF_n | exact okF_j | rfl) only [jc_ref, rI_int, rR_ref, rR_null, rJ_long, ckR_ref, ckR_null, ckr_ref, ckr_null, ckW_int, ckW_ref, ckW_null, cI_ok, cR_ok, cR_null, cV_ok, cJ_ok, qH_eq, qD_in, aG_ref, aS_ref, aL_ref, pF_ref, cK_ref, cK_null, zI_lit, zJ_lit, zI_add, zI_sub, zI_mul, zI_neg, zI_eq, zI_lt, zI_le, Int.reduceLT, Int.reduceLE, Int.reduceAdd, Int.reduceSub, Int.reduceMul, Int.reduceNeg, Int.reduceEq, Int.reduceNe, reduceIte, jf_in, pFc_in, aGi, aGb, aSi, aLc_in, cKc_in, nA_in, jm_s1, jm_s2, jm_p1, jm_p2, jm_b, jn_b, jn_s, jn_p, jset_jset, jset_jpush2, ckR_is, ckr_is, rR_is, ckW_is, cR_is, obi2, ckW_int, eq_self, if_true, ref_null, if_false, ne_eq, not_true_eq_false, not_false_eq_true, decide_true, decide_false, decide_not, Bool.true_and, Bool.false_and, Bool.and_true, Bool.and_false, Bool.true_or, Bool.false_or, Bool.or_true, Bool.or_false, Bool.not_true, Bool.not_false, Bool.false_eq_true, bI_t, bI_f, Int.natCast_one, Int.cast_ofNat_Int, Int.natCast_zero, aGc_V, Int.toNat_natCast]
      rw [if_pos (by omega), jset_id he]
    · obtain ⟨o1, r1⟩ := hok lo (Nat.le_refl _) (by omega)
      obtain ⟨o2, r2⟩ := hok hi (by omega) (Nat.le_refl _)
      have s1 := fun (κ : AH → Rz) (u : Ph κ) => aSr_in (κ := κ) (u := u) he o2 (i := lo) (by omega) (by omega) (by omega)
      have m1 : jm (jset H e (1040, N, ju f lo (f hi))) e = some (1040, N, ju f lo (f hi)) := jm_s1
      have s2 := fun (κ : AH → Rz) (u : Ph κ) => aSr_in (κ := κ) (u := u) m1 (okH_hi o1 he (Nat.le_of_ble_eq_true rfl)) (i := hi) (by omega) (by omega) (by omega)
      have m2 : jm (jset H e (1040, N, ju (ju f lo (f hi)) hi (f lo))) e = some (1040, N, ju (ju f lo (f hi)) hi (f lo)) := jm_s1
      obtain ⟨g, g1, g2, g3⟩ := ih (hi - 1 + 1 - (lo + 1)) (by omega) (lo + 1) (hi - 1) _ _ (f lo) (by omega) (by omega) (Nat.le_refl _) m2 (fun i a b => by
        rw [juN (by omega), juN (by omega)]
        have := hok i (by omega) (by omega)
        exact ⟨okH_hi this.1 he (Nat.le_of_ble_eq_true rfl), this.2⟩)
      have ce : (hi : Int) + -1 = ((hi - 1 : Nat) : Int) := by omega
      have ce2 : (lo : Int) + 1 = ((lo + 1 : Nat) : Int) := by omega
      refine ⟨g, ?_, fun i a b => ?_, fun i a => ?_⟩
      · rw [F72012_3]
        simp (disch := first | assumption | omega | decide | exact okF_i | exact okF_r | exact okF_n | exact okF_j | rfl) only [jc_ref, rI_int, rR_ref, rR_null, rJ_long, ckR_ref, ckR_null, ckr_ref, ckr_null, ckW_int, ckW_ref, ckW_null, cI_ok, cR_ok, cR_null, cV_ok, cJ_ok, qH_eq, qD_in, aG_ref, aS_ref, aL_ref, pF_ref, cK_ref, cK_null, zI_lit, zJ_lit, zI_add, zI_sub, zI_mul, zI_neg, zI_eq, zI_lt, zI_le, Int.reduceLT, Int.reduceLE, Int.reduceAdd, Int.reduceSub, Int.reduceMul, Int.reduceNeg, Int.reduceEq, Int.reduceNe, reduceIte, jf_in, pFc_in, aGi, aGb, aSi, aLc_in, cKc_in, nA_in, jm_s1, jm_s2, jm_p1, jm_p2, jm_b, jn_b, jn_s, jn_p, jset_jset, jset_jpush2, ckR_is, ckr_is, rR_is, ckW_is, cR_is, obi2, ckW_int, eq_self, if_true, ref_null, if_false, ne_eq, not_true_eq_false, not_false_eq_true, decide_true, decide_false, decide_not, Bool.true_and, Bool.false_and, Bool.and_true, Bool.and_false, Bool.true_or, Bool.false_or, Bool.or_true, Bool.or_false, Bool.not_true, Bool.not_false, Bool.false_eq_true, bI_t, bI_f, Int.natCast_one, Int.cast_ofNat_Int, Int.natCast_zero, aGc_V, Int.toNat_natCast, he, s1, s2, m1]
        rw [if_neg (by omega), ce, ce2]
        rw [jset_jset] at g1
        exact g1
      · by_cases e1 : i = lo
        · rw [g3 i (by omega), e1, juN (by omega), juE]
          congr 1; omega
        · by_cases e2 : i = hi
          · rw [g3 i (by omega), e2, juE]
            congr 1; omega
          · rw [g2 i (by omega) (by omega), juN (by omega), juN (by omega)]
            congr 1; omega
      · rw [g3 i (by omega), juN (by omega), juN (by omega)]
theorem c_rev (hN : N < 100000) (he : jm H e = some (1040, N, f)) (hlo : lo < hi) (hhi : hi ≤ N) (hok : ∀ i, lo ≤ i → i < hi → okH H (f i) ∧ isR (f i) = true) : ∃ g, M2 (d + 1) 72012 [.ref e, .int (zI lo), .int (zI hi)] H = some (.inl none, jset H e (1040, N, g)) ∧ (∀ i, lo ≤ i → i < hi → g i = f (lo + (hi - 1 - i))) ∧ ∀ i, i < lo ∨ hi ≤ i → g i = f i := by
  obtain ⟨g, g1, g2, g3⟩ := rv_loop (d := d) hN (hi - lo) lo (hi - 1) H f jno (by omega) (by omega) (by omega) he (fun i a b => hok i a (by omega))
  refine ⟨g, ?_, fun i a b => by rw [g2 i a (by omega)]; congr 1; omega, fun i a => g3 i (by omega)⟩
  have ce : (hi : Int) + -1 = ((hi - 1 : Nat) : Int) := by omega
  rw [Y72012 H rfl, F72012_0]
  simp (disch := first | assumption | omega | decide | exact okF_i | exact okF_r | exact okF_n | exact okF_j | rfl) only [jc_ref, rI_int, rR_ref, rR_null, rJ_long, ckR_ref, ckR_null, ckr_ref, ckr_null, ckW_int, ckW_ref, ckW_null, cI_ok, cR_ok, cR_null, cV_ok, cJ_ok, qH_eq, qD_in, aG_ref, aS_ref, aL_ref, pF_ref, cK_ref, cK_null, zI_lit, zJ_lit, zI_add, zI_sub, zI_mul, zI_neg, zI_eq, zI_lt, zI_le, Int.reduceLT, Int.reduceLE, Int.reduceAdd, Int.reduceSub, Int.reduceMul, Int.reduceNeg, Int.reduceEq, Int.reduceNe, reduceIte, jf_in, pFc_in, aGi, aGb, aSi, aLc_in, cKc_in, nA_in, jm_s1, jm_s2, jm_p1, jm_p2, jm_b, jn_b, jn_s, jn_p, jset_jset, jset_jpush2, ckR_is, ckr_is, rR_is, ckW_is, cR_is, obi2, ckW_int, eq_self, if_true, ref_null, if_false, ne_eq, not_true_eq_false, not_false_eq_true, decide_true, decide_false, decide_not, Bool.true_and, Bool.false_and, Bool.and_true, Bool.and_false, Bool.true_or, Bool.false_or, Bool.or_true, Bool.or_false, Bool.not_true, Bool.not_false, Bool.false_eq_true, bI_t, bI_f, Int.natCast_one, Int.cast_ofNat_Int, Int.natCast_zero, aGc_V, Int.toNat_natCast, ce]
  exact g1
theorem run_up (hG : Fzn G H) (hN : N < 100000) (he : jm H e = some (1040, N, f)) (hhi : hi ≤ N) (hA : OkA G rk f lo (hi - lo)) : ∀ (m i : Nat), i + m = hi → lo < i → SrtA rk f lo (i - lo) →
    ∃ j, i ≤ j ∧ j ≤ hi ∧ G2 (d + 2) 72001 89 [.ref e, .int (zI lo), .int (zI hi), .int (zI i)] [] H = some (.inl (some (.int (zI ((j - lo : Nat) : Int)))), H) ∧ SrtA rk f lo (j - lo) := by
  intro m
  induction m with
  | zero =>
    intro i hi2 hl hs
    refine ⟨i, Nat.le_refl _, by omega, ?_, hs⟩
    rw [F72001_89]
    simp (disch := first | assumption | omega | decide | exact okF_i | exact okF_r | exact okF_n | exact okF_j | rfl) only [jc_ref, rI_int, rR_ref, rR_null, rJ_long, ckR_ref, ckR_null, ckr_ref, ckr_null, ckW_int, ckW_ref, ckW_null, cI_ok, cR_ok, cR_null, cV_ok, cJ_ok, qH_eq, qD_in, aG_ref, aS_ref, aL_ref, pF_ref, cK_ref, cK_null, zI_lit, zJ_lit, zI_add, zI_sub, zI_mul, zI_neg, zI_eq, zI_lt, zI_le, Int.reduceLT, Int.reduceLE, Int.reduceAdd, Int.reduceSub, Int.reduceMul, Int.reduceNeg, Int.reduceEq, Int.reduceNe, reduceIte, jf_in, pFc_in, aGi, aGb, aSi, aLc_in, cKc_in, nA_in, jm_s1, jm_s2, jm_p1, jm_p2, jm_b, jn_b, jn_s, jn_p, jset_jset, jset_jpush2, ckR_is, ckr_is, rR_is, ckW_is, cR_is, obi2, ckW_int, eq_self, if_true, ref_null, if_false, ne_eq, not_true_eq_false, not_false_eq_true, decide_true, decide_false, decide_not, Bool.true_and, Bool.false_and, Bool.and_true, Bool.and_false, Bool.true_or, Bool.false_or, Bool.or_true, Bool.or_false, Bool.not_true, Bool.not_false, Bool.false_eq_true, bI_t, bI_f, Int.natCast_one, Int.cast_ofNat_Int, Int.natCast_zero, aGc_V, Int.toNat_natCast]
    rw [if_pos (by omega), show (i : Int) - lo = ((i - lo : Nat) : Int) by omega]
  | succ m ih =>
    intro i hi2 hl hs
    have a1 := hA i (by omega) (by omega)
    have a2 := hA (i - 1) (by omega) (by omega)
    have r1 := a1.R
    have r2 := a2.R
    obtain ⟨c, c1, c2, c3, c4⟩ := c_cmp (d := d) hG a1 a2
    have hk := fun (κ : Rz) (u : Ph κ) => (show zqK H (f i) [24, 49, 50, 62, 150, 162] κ u = κ by
      obtain ⟨b, k, t, n, r, e1, g, -⟩ := a1
      rw [e1, cK_ref, hG.m g]
      exact cKc_in rfl)
    have ce : (i : Int) - 1 = ((i - 1 : Nat) : Int) := by omega
    have ce2 : (i : Int) + 1 = ((i + 1 : Nat) : Int) := by omega
    by_cases hc : c < 0
    · refine ⟨i, Nat.le_refl _, by omega, ?_, hs⟩
      rw [F72001_89]
      simp (disch := first | assumption | omega | decide | exact okF_i | exact okF_r | exact okF_n | exact okF_j | rfl) only [jc_ref, rI_int, rR_ref, rR_null, rJ_long, ckR_ref, ckR_null, ckr_ref, ckr_null, ckW_int, ckW_ref, ckW_null, cI_ok, cR_ok, cR_null, cV_ok, cJ_ok, qH_eq, qD_in, aG_ref, aS_ref, aL_ref, pF_ref, cK_ref, cK_null, zI_lit, zJ_lit, zI_add, zI_sub, zI_mul, zI_neg, zI_eq, zI_lt, zI_le, Int.reduceLT, Int.reduceLE, Int.reduceAdd, Int.reduceSub, Int.reduceMul, Int.reduceNeg, Int.reduceEq, Int.reduceNe, reduceIte, jf_in, pFc_in, aGi, aGb, aSi, aLc_in, cKc_in, nA_in, jm_s1, jm_s2, jm_p1, jm_p2, jm_b, jn_b, jn_s, jn_p, jset_jset, jset_jpush2, ckR_is, ckr_is, rR_is, ckW_is, cR_is, obi2, ckW_int, eq_self, if_true, ref_null, if_false, ne_eq, not_true_eq_false, not_false_eq_true, decide_true, decide_false, decide_not, Bool.true_and, Bool.false_and, Bool.and_true, Bool.and_false, Bool.true_or, Bool.false_or, Bool.or_true, Bool.or_false, Bool.not_true, Bool.not_false, Bool.false_eq_true, bI_t, bI_f, Int.natCast_one, Int.cast_ofNat_Int, Int.natCast_zero, aGc_V, Int.toNat_natCast, he, ce, hk, c1]
      rw [if_neg (by omega), if_pos hc, show (i : Int) - lo = ((i - lo : Nat) : Int) by omega]
    · have := hs.ext (Or.inr (by rw [show lo + (i - lo) - 1 = i - 1 by omega, show lo + (i - lo) = i by omega]; omega))
      rw [show i - lo + 1 = i + 1 - lo by omega] at this
      obtain ⟨j, j1, j2, j3, j4⟩ := ih (i + 1) (by omega) (by omega) this
      refine ⟨j, by omega, j2, ?_, j4⟩
      rw [F72001_89]
      simp (disch := first | assumption | omega | decide | exact okF_i | exact okF_r | exact okF_n | exact okF_j | rfl) only [jc_ref, rI_int, rR_ref, rR_null, rJ_long, ckR_ref, ckR_null, ckr_ref, ckr_null, ckW_int, ckW_ref, ckW_null, cI_ok, cR_ok, cR_null, cV_ok, cJ_ok, qH_eq, qD_in, aG_ref, aS_ref, aL_ref, pF_ref, cK_ref, cK_null, zI_lit, zJ_lit, zI_add, zI_sub, zI_mul, zI_neg, zI_eq, zI_lt, zI_le, Int.reduceLT, Int.reduceLE, Int.reduceAdd, Int.reduceSub, Int.reduceMul, Int.reduceNeg, Int.reduceEq, Int.reduceNe, reduceIte, jf_in, pFc_in, aGi, aGb, aSi, aLc_in, cKc_in, nA_in, jm_s1, jm_s2, jm_p1, jm_p2, jm_b, jn_b, jn_s, jn_p, jset_jset, jset_jpush2, ckR_is, ckr_is, rR_is, ckW_is, cR_is, obi2, ckW_int, eq_self, if_true, ref_null, if_false, ne_eq, not_true_eq_false, not_false_eq_true, decide_true, decide_false, decide_not, Bool.true_and, Bool.false_and, Bool.and_true, Bool.and_false, Bool.true_or, Bool.false_or, Bool.or_true, Bool.or_false, Bool.not_true, Bool.not_false, Bool.false_eq_true, bI_t, bI_f, Int.natCast_one, Int.cast_ofNat_Int, Int.natCast_zero, aGc_V, Int.toNat_natCast, he, ce, hk, c1]
      rw [if_neg (by omega), if_neg hc, ce2]
      exact j3
theorem cmp_K (hG : Fzn G H) {z : Int} (h : Cmp G v z) {κ : Rz} {u : Ph κ} : zqK H v [24, 49, 50, 62, 150, 162] κ u = κ := by
  obtain ⟨b, k, t, n, r, rfl, g, -⟩ := h
  rw [cK_ref, hG.m g]
  exact cKc_in rfl
theorem run_dn (hG : Fzn G H) (hN : N < 100000) (he : jm H e = some (1040, N, f)) (hhi : hi ≤ N) (hA : OkA G rk f lo (hi - lo)) : ∀ (m i : Nat), i + m = hi → lo < i → (∀ p q, lo ≤ p → p ≤ q → q < i → rk (f q) ≤ rk (f p)) →
    ∃ j g, i ≤ j ∧ j ≤ hi ∧ G2 (d + 2) 72001 50 [.ref e, .int (zI lo), .int (zI hi), .int (zI i)] [] H = some (.inl (some (.int (zI ((j - lo : Nat) : Int)))), jset H e (1040, N, g)) ∧ SrtA rk g lo (j - lo) ∧ PmR f g lo (j - lo) := by
  have fin : ∀ j, lo < j → j ≤ hi → (∀ p q, lo ≤ p → p ≤ q → q < j → rk (f q) ≤ rk (f p)) → ∃ g, M2 (d + 2) 72012 [.ref e, .int (zI lo), .int (zI j)] H = some (.inl none, jset H e (1040, N, g)) ∧ SrtA rk g lo (j - lo) ∧ PmR f g lo (j - lo) := fun j j0 j1 hs => by
    obtain ⟨g, g1, g2, g3⟩ := c_rev (d := d + 1) hN he j0 (by omega) (fun i a b => ⟨(hA i a (by omega)).ok hG, (hA i a (by omega)).R⟩)
    refine ⟨g, g1, fun p q a b c => ?_, PmR.rev (fun i a b => ?_) (fun i a => g3 i (by omega))⟩
    · rw [g2 p a (by omega), g2 q (by omega) (by omega)]
      exact hs _ _ (by omega) (by omega) (by omega)
    · rw [g2 i a (by omega)]; congr 1; omega
  intro m
  induction m with
  | zero =>
    intro i hi2 hl hs
    obtain ⟨g, g1, g2, g3⟩ := fin i hl (by omega) hs
    refine ⟨i, g, Nat.le_refl _, by omega, ?_, g2, g3⟩
    rw [F72001_50]
    simp (disch := first | assumption | omega | decide | exact okF_i | exact okF_r | exact okF_n | exact okF_j | rfl) only [jc_ref, rI_int, rR_ref, rR_null, rJ_long, ckR_ref, ckR_null, ckr_ref, ckr_null, ckW_int, ckW_ref, ckW_null, cI_ok, cR_ok, cR_null, cV_ok, cJ_ok, qH_eq, qD_in, aG_ref, aS_ref, aL_ref, pF_ref, cK_ref, cK_null, zI_lit, zJ_lit, zI_add, zI_sub, zI_mul, zI_neg, zI_eq, zI_lt, zI_le, Int.reduceLT, Int.reduceLE, Int.reduceAdd, Int.reduceSub, Int.reduceMul, Int.reduceNeg, Int.reduceEq, Int.reduceNe, reduceIte, jf_in, pFc_in, aGi, aGb, aSi, aLc_in, cKc_in, nA_in, jm_s1, jm_s2, jm_p1, jm_p2, jm_b, jn_b, jn_s, jn_p, jset_jset, jset_jpush2, ckR_is, ckr_is, rR_is, ckW_is, cR_is, obi2, ckW_int, eq_self, if_true, ref_null, if_false, ne_eq, not_true_eq_false, not_false_eq_true, decide_true, decide_false, decide_not, Bool.true_and, Bool.false_and, Bool.and_true, Bool.and_false, Bool.true_or, Bool.false_or, Bool.or_true, Bool.or_false, Bool.not_true, Bool.not_false, Bool.false_eq_true, bI_t, bI_f, Int.natCast_one, Int.cast_ofNat_Int, Int.natCast_zero, aGc_V, Int.toNat_natCast, g1]
    rw [if_pos (by omega), show (i : Int) - lo = ((i - lo : Nat) : Int) by omega]
  | succ m ih =>
    intro i hi2 hl hs
    have a1 := hA i (by omega) (by omega)
    have a2 := hA (i - 1) (by omega) (by omega)
    have r1 := a1.R
    have r2 := a2.R
    obtain ⟨c, c1, c2, c3, c4⟩ := c_cmp (d := d) hG a1 a2
    have hk := fun (κ : Rz) (u : Ph κ) => cmp_K hG a1 (κ := κ) (u := u)
    have ce : (i : Int) - 1 = ((i - 1 : Nat) : Int) := by omega
    have ce2 : (i : Int) + 1 = ((i + 1 : Nat) : Int) := by omega
    by_cases hc : c < 0
    · obtain ⟨j, g, j1, j2, j3, j4⟩ := ih (i + 1) (by omega) (by omega) (fun p q a b b2 => by
        by_cases hq : q < i
        · exact hs p q a b hq
        · have : q = i := by omega
          subst this
          by_cases hp : p = q
          · rw [hp]; exact Int.le_refl _
          · have := hs p (q - 1) a (by omega) (by omega)
            omega)
      refine ⟨j, g, by omega, j2, ?_, j4⟩
      rw [F72001_50]
      simp (disch := first | assumption | omega | decide | exact okF_i | exact okF_r | exact okF_n | exact okF_j | rfl) only [jc_ref, rI_int, rR_ref, rR_null, rJ_long, ckR_ref, ckR_null, ckr_ref, ckr_null, ckW_int, ckW_ref, ckW_null, cI_ok, cR_ok, cR_null, cV_ok, cJ_ok, qH_eq, qD_in, aG_ref, aS_ref, aL_ref, pF_ref, cK_ref, cK_null, zI_lit, zJ_lit, zI_add, zI_sub, zI_mul, zI_neg, zI_eq, zI_lt, zI_le, Int.reduceLT, Int.reduceLE, Int.reduceAdd, Int.reduceSub, Int.reduceMul, Int.reduceNeg, Int.reduceEq, Int.reduceNe, reduceIte, jf_in, pFc_in, aGi, aGb, aSi, aLc_in, cKc_in, nA_in, jm_s1, jm_s2, jm_p1, jm_p2, jm_b, jn_b, jn_s, jn_p, jset_jset, jset_jpush2, ckR_is, ckr_is, rR_is, ckW_is, cR_is, obi2, ckW_int, eq_self, if_true, ref_null, if_false, ne_eq, not_true_eq_false, not_false_eq_true, decide_true, decide_false, decide_not, Bool.true_and, Bool.false_and, Bool.and_true, Bool.and_false, Bool.true_or, Bool.false_or, Bool.or_true, Bool.or_false, Bool.not_true, Bool.not_false, Bool.false_eq_true, bI_t, bI_f, Int.natCast_one, Int.cast_ofNat_Int, Int.natCast_zero, aGc_V, Int.toNat_natCast, he, ce, hk, c1]
      rw [if_neg (by omega), if_neg (by omega), ce2]
      exact j3
    · obtain ⟨g, g1, g2, g3⟩ := fin i hl (by omega) hs
      refine ⟨i, g, Nat.le_refl _, by omega, ?_, g2, g3⟩
      rw [F72001_50]
      simp (disch := first | assumption | omega | decide | exact okF_i | exact okF_r | exact okF_n | exact okF_j | rfl) only [jc_ref, rI_int, rR_ref, rR_null, rJ_long, ckR_ref, ckR_null, ckr_ref, ckr_null, ckW_int, ckW_ref, ckW_null, cI_ok, cR_ok, cR_null, cV_ok, cJ_ok, qH_eq, qD_in, aG_ref, aS_ref, aL_ref, pF_ref, cK_ref, cK_null, zI_lit, zJ_lit, zI_add, zI_sub, zI_mul, zI_neg, zI_eq, zI_lt, zI_le, Int.reduceLT, Int.reduceLE, Int.reduceAdd, Int.reduceSub, Int.reduceMul, Int.reduceNeg, Int.reduceEq, Int.reduceNe, reduceIte, jf_in, pFc_in, aGi, aGb, aSi, aLc_in, cKc_in, nA_in, jm_s1, jm_s2, jm_p1, jm_p2, jm_b, jn_b, jn_s, jn_p, jset_jset, jset_jpush2, ckR_is, ckr_is, rR_is, ckW_is, cR_is, obi2, ckW_int, eq_self, if_true, ref_null, if_false, ne_eq, not_true_eq_false, not_false_eq_true, decide_true, decide_false, decide_not, Bool.true_and, Bool.false_and, Bool.and_true, Bool.and_false, Bool.true_or, Bool.false_or, Bool.or_true, Bool.or_false, Bool.not_true, Bool.not_false, Bool.false_eq_true, bI_t, bI_f, Int.natCast_one, Int.cast_ofNat_Int, Int.natCast_zero, aGc_V, Int.toNat_natCast, he, ce, hk, c1, g1]
      rw [if_neg (by omega), if_pos (by omega), show (i : Int) - lo = ((i - lo : Nat) : Int) by omega]
theorem c_run (hG : Fzn G H) (hN : N < 100000) (he : jm H e = some (1040, N, f)) (hlo : lo < hi) (hhi : hi ≤ N) (hA : OkA G rk f lo (hi - lo)) :
    ∃ j g, lo < j ∧ j ≤ hi ∧ M2 (d + 3) 72001 [.ref e, .int (zI lo), .int (zI hi)] H = some (.inl (some (.int (zI ((j - lo : Nat) : Int)))), jset H e (1040, N, g)) ∧ SrtA rk g lo (j - lo) ∧ PmR f g lo (hi - lo) := by
  have ce : (lo : Int) + 1 = ((lo + 1 : Nat) : Int) := by omega
  have ce2 : (lo : Int) + 1 + 1 = ((lo + 2 : Nat) : Int) := by omega
  have ce3 : ((lo + 1 : Nat) : Int) + 1 = ((lo + 2 : Nat) : Int) := by omega
  have h0 : ∀ (κ : Rz), (if (1 : Int32) = 0 then κ else κ) = κ := fun κ => by split <;> rfl
  rw [Y72001 H rfl, F72001_0]
  by_cases h1 : lo + 1 = hi
  · refine ⟨hi, f, hlo, Nat.le_refl _, ?_, fun i j a b c => by rw [show i = j by omega]; exact Int.le_refl _, PmR.rf⟩
    rw [F72001_19]
    simp (disch := first | assumption | omega | decide | exact okF_i | exact okF_r | exact okF_n | exact okF_j | rfl) only [jc_ref, rI_int, rR_ref, rR_null, rJ_long, ckR_ref, ckR_null, ckr_ref, ckr_null, ckW_int, ckW_ref, ckW_null, cI_ok, cR_ok, cR_null, cV_ok, cJ_ok, qH_eq, qD_in, aG_ref, aS_ref, aL_ref, pF_ref, cK_ref, cK_null, zI_lit, zJ_lit, zI_add, zI_sub, zI_mul, zI_neg, zI_eq, zI_lt, zI_le, Int.reduceLT, Int.reduceLE, Int.reduceAdd, Int.reduceSub, Int.reduceMul, Int.reduceNeg, Int.reduceEq, Int.reduceNe, reduceIte, jf_in, pFc_in, aGi, aGb, aSi, aLc_in, cKc_in, nA_in, jm_s1, jm_s2, jm_p1, jm_p2, jm_b, jn_b, jn_s, jn_p, jset_jset, jset_jpush2, ckR_is, ckr_is, rR_is, ckW_is, cR_is, obi2, ckW_int, eq_self, if_true, ref_null, if_false, ne_eq, not_true_eq_false, not_false_eq_true, decide_true, decide_false, decide_not, Bool.true_and, Bool.false_and, Bool.and_true, Bool.and_false, Bool.true_or, Bool.false_or, Bool.or_true, Bool.or_false, Bool.not_true, Bool.not_false, Bool.false_eq_true, bI_t, bI_f, Int.natCast_one, Int.cast_ofNat_Int, Int.natCast_zero, aGc_V, Int.toNat_natCast]
    rw [if_pos (by omega), jset_id he, show hi - lo = 1 by omega]
    rfl
  · have a1 := hA (lo + 1) (by omega) (by omega)
    have a2 := hA lo (by omega) (by omega)
    have r1 := a1.R
    have r2 := a2.R
    obtain ⟨c, c1, c2, c3, c4⟩ := c_cmp (d := d) hG a1 a2
    have hk := fun (κ : Rz) (u : Ph κ) => cmp_K hG a1 (κ := κ) (u := u)
    by_cases hc : c < 0
    · obtain ⟨j, g, j1, j2, j3, j4, j5⟩ := run_dn (d := d) hG hN he hhi hA (hi - (lo + 2)) (lo + 2) (by omega) (by omega) (fun p q a b c => by
        by_cases hp : p = q
        · rw [hp]; exact Int.le_refl _
        · rw [show p = lo by omega, show q = lo + 1 by omega]; omega)
      refine ⟨j, g, by omega, j2, ?_, j4, j5.wd (Nat.le_refl _) (by omega)⟩
      rw [F72001_19]
      simp (disch := first | assumption | omega | decide | exact okF_i | exact okF_r | exact okF_n | exact okF_j | rfl) only [jc_ref, rI_int, rR_ref, rR_null, rJ_long, ckR_ref, ckR_null, ckr_ref, ckr_null, ckW_int, ckW_ref, ckW_null, cI_ok, cR_ok, cR_null, cV_ok, cJ_ok, qH_eq, qD_in, aG_ref, aS_ref, aL_ref, pF_ref, cK_ref, cK_null, zI_lit, zJ_lit, zI_add, zI_sub, zI_mul, zI_neg, zI_eq, zI_lt, zI_le, Int.reduceLT, Int.reduceLE, Int.reduceAdd, Int.reduceSub, Int.reduceMul, Int.reduceNeg, Int.reduceEq, Int.reduceNe, reduceIte, jf_in, pFc_in, aGi, aGb, aSi, aLc_in, cKc_in, nA_in, jm_s1, jm_s2, jm_p1, jm_p2, jm_b, jn_b, jn_s, jn_p, jset_jset, jset_jpush2, ckR_is, ckr_is, rR_is, ckW_is, cR_is, obi2, ckW_int, eq_self, if_true, ref_null, if_false, ne_eq, not_true_eq_false, not_false_eq_true, decide_true, decide_false, decide_not, Bool.true_and, Bool.false_and, Bool.and_true, Bool.and_false, Bool.true_or, Bool.false_or, Bool.or_true, Bool.or_false, Bool.not_true, Bool.not_false, Bool.false_eq_true, bI_t, bI_f, Int.natCast_one, Int.cast_ofNat_Int, Int.natCast_zero, aGc_V, Int.toNat_natCast, he, ce, ce3, hk, c1]
      rw [if_neg (by omega), if_neg (by omega)]
      exact j3
    · obtain ⟨j, j1, j2, j3, j4⟩ := run_up (d := d) hG hN he hhi hA (hi - (lo + 2)) (lo + 2) (by omega) (by omega) (fun p q a b c => by
        by_cases hp : p = q
        · rw [hp]; exact Int.le_refl _
        · rw [show p = lo by omega, show q = lo + 1 by omega]; omega)
      refine ⟨j, f, by omega, j2, ?_, j4, PmR.rf⟩
      rw [F72001_19]
      simp (disch := first | assumption | omega | decide | exact okF_i | exact okF_r | exact okF_n | exact okF_j | rfl) only [jc_ref, rI_int, rR_ref, rR_null, rJ_long, ckR_ref, ckR_null, ckr_ref, ckr_null, ckW_int, ckW_ref, ckW_null, cI_ok, cR_ok, cR_null, cV_ok, cJ_ok, qH_eq, qD_in, aG_ref, aS_ref, aL_ref, pF_ref, cK_ref, cK_null, zI_lit, zJ_lit, zI_add, zI_sub, zI_mul, zI_neg, zI_eq, zI_lt, zI_le, Int.reduceLT, Int.reduceLE, Int.reduceAdd, Int.reduceSub, Int.reduceMul, Int.reduceNeg, Int.reduceEq, Int.reduceNe, reduceIte, jf_in, pFc_in, aGi, aGb, aSi, aLc_in, cKc_in, nA_in, jm_s1, jm_s2, jm_p1, jm_p2, jm_b, jn_b, jn_s, jn_p, jset_jset, jset_jpush2, ckR_is, ckr_is, rR_is, ckW_is, cR_is, obi2, ckW_int, eq_self, if_true, ref_null, if_false, ne_eq, not_true_eq_false, not_false_eq_true, decide_true, decide_false, decide_not, Bool.true_and, Bool.false_and, Bool.and_true, Bool.and_false, Bool.true_or, Bool.false_or, Bool.or_true, Bool.or_false, Bool.not_true, Bool.not_false, Bool.false_eq_true, bI_t, bI_f, Int.natCast_one, Int.cast_ofNat_Int, Int.natCast_zero, aGc_V, Int.toNat_natCast, he, ce, ce3, hk, c1]
      rw [if_neg (by omega), if_pos (by omega), jset_id he]
      exact j3
end
