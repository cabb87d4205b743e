/-! what is sorted: two violations compared; parts of arrays as lists -/
-- jc_ref, rI_int, rR_ref, rR_null, rJ_long, ckR_ref, ckR_null, ckr_ref, ckr_null, ckW_int, ckW_ref, ckW_null, cI_ok, cR_ok, cR_null, cV_ok, cJ_ok, qH_eq, qD_in, aG_ref, aS_ref, aL_ref, pF_ref, cK_ref, cK_null, zI_lit, zJ_lit, zI_add, zI_sub, zI_mul, zI_neg, zI_eq, zI_lt, zI_le, Int.reduceLT, Int.reduceLE, Int.reduceAdd, Int.reduceSub, Int.reduceMul, Int.reduceNeg, Int.reduceEq, Int.reduceNe, reduceIte, jf_in, pFc_in, aGi, aGb, aSi, aLc_in, cKc_in, nA_in, jm_s1, jm_s2, jm_p1, jm_p2, jm_b, jn_b, jn_s, jn_p, jset_jset, jset_jpush2, ckR_is, ckr_is, rR_is, ckW_is, cR_is, obi2, ckW_int, eq_self, if_true, ref_null, if_false, ne_eq, not_true_eq_false, not_false_eq_true, decide_true, decide_false, decide_not, Bool.true_and, Bool.false_and, Bool.and_true, Bool.and_false, Bool.true_or, Bool.false_or, Bool.or_true, Bool.or_false, Bool.not_true, Bool.not_false, Bool.false_eq_true, bI_t, bI_f, Int.natCast_one, Int.cast_ofNat_Int, Int.natCast_zero, o24_0, o24_1, o24_2, o24_3, n24, o24s_0, o24s_1, o24s_2, o24s_3 = jc_ref, rI_int, rR_ref, rR_null, rJ_long, ckR_ref, ckR_null, ckr_ref, ckr_null, ckW_int, ckW_ref, ckW_null, cI_ok, cR_ok, cR_null, cV_ok, cJ_ok, qH_eq, qD_in, aG_ref, aS_ref, aL_ref, pF_ref, cK_ref, cK_null, zI_lit, zJ_lit, zI_add, zI_sub, zI_mul, zI_neg, zI_eq, zI_lt, zI_le, Int.reduceLT, Int.reduceLE, Int.reduceAdd, Int.reduceSub, Int.reduceMul, Int.reduceNeg, Int.reduceEq, Int.reduceNe, reduceIte, jf_in, pFc_in, aGi, aGb, aSi, aLc_in, cKc_in, nA_in, jm_s1, jm_s2, jm_p1, jm_p2, jm_b, jn_b, jn_s, jn_p, jset_jset, jset_jpush2, ckR_is, ckr_is, rR_is, ckW_is, cR_is, obi2, ckW_int, eq_self, if_true, ref_null, if_false, ne_eq, not_true_eq_false, not_false_eq_true, decide_true, decide_false, decide_not, Bool.true_and, Bool.false_and, Bool.and_true, Bool.and_false, Bool.true_or, Bool.false_or, Bool.or_true, Bool.or_false, Bool.not_true, Bool.not_false, Bool.false_eq_true, bI_t, bI_f, Int.natCast_one, Int.cast_ofNat_Int, Int.natCast_zero, o24_0, o24_1, o24_2, o24_3, n24, o24s_0, o24s_1, o24s_2, o24s_3
def rnk (k t n r : Int) : Int := ((k * 4 + (if k = 1 then t else 0)) * 8 + n) * 128 + r
/-- a violation of a rank -/
def Cmp (G : Nat → Option Cl) (v : Value) (z : Int) : Prop := ∃ (b : Nat) (k t n r : Int), v = .ref b ∧ G b = some (24, 4, o24 k t n r) ∧ (1 ≤ k ∧ k ≤ 4) ∧ (0 ≤ t ∧ t < 4) ∧ (0 ≤ n ∧ n < 8) ∧ (0 ≤ r ∧ r < 99) ∧ z = rnk k t n r
section
variable {G : Nat → Option Cl} {d : Nat} {H : AH} {v w : Value} {z y : Int}
theorem Cmp.R (h : Cmp G v z) : isR v = true := by obtain ⟨b, -, -, -, -, rfl, -⟩ := h; rfl
theorem Cmp.ok (h : Cmp G v z) (hG : Fzn G H) : okH H v := by
  obtain ⟨b, k, t, n, r, rfl, g, -⟩ := h
  exact Or.inr ⟨b, _, rfl, hG.lt g, hG.m g, by show 24 < 1000; decide⟩
theorem c_cmp (hG : Fzn G H) (h1 : Cmp G v z) (h2 : Cmp G w y) : ∃ c, MvH (d + 2) 9147 [v, w] H = some (.inl (some (.int (zI c))), H) ∧ (-1000 ≤ c ∧ c ≤ 1000) ∧ (c < 0 ↔ z < y) ∧ (0 < c ↔ y < z) := by
  obtain ⟨b, k, t, n, r, rfl, g, k1, t1, n1, r1, rfl⟩ := h1
  obtain ⟨b2, k2, t2, n2, r2, rfl, g2, kk, tt, nn, rr, rfl⟩ := h2
  have m := hG.m g
  have m2 := hG.m g2
  have e1 : MvH (d + 2) 9147 [.ref b, .ref b2] H = M2 (d + 2) 24000 [.ref b, .ref b2] H := by simp only [MvH, m]; rfl
  have s50 : G2 d 24001 50 [.ref b, .ref b2] [] H = some (.inl (some (.int (zI (if n = n2 then r - r2 else n - n2)))), H) := by
    rw [F24001_50]
    simp (disch := first | assumption | omega | decide | exact okF_i | exact okF_r | exact okF_n | exact okF_j | rfl) only [jc_ref, rI_int, rR_ref, rR_null, rJ_long, ckR_ref, ckR_null, ckr_ref, ckr_null, ckW_int, ckW_ref, ckW_null, cI_ok, cR_ok, cR_null, cV_ok, cJ_ok, qH_eq, qD_in, aG_ref, aS_ref, aL_ref, pF_ref, cK_ref, cK_null, zI_lit, zJ_lit, zI_add, zI_sub, zI_mul, zI_neg, zI_eq, zI_lt, zI_le, Int.reduceLT, Int.reduceLE, Int.reduceAdd, Int.reduceSub, Int.reduceMul, Int.reduceNeg, Int.reduceEq, Int.reduceNe, reduceIte, jf_in, pFc_in, aGi, aGb, aSi, aLc_in, cKc_in, nA_in, jm_s1, jm_s2, jm_p1, jm_p2, jm_b, jn_b, jn_s, jn_p, jset_jset, jset_jpush2, ckR_is, ckr_is, rR_is, ckW_is, cR_is, obi2, ckW_int, eq_self, if_true, ref_null, if_false, ne_eq, not_true_eq_false, not_false_eq_true, decide_true, decide_false, decide_not, Bool.true_and, Bool.false_and, Bool.and_true, Bool.and_false, Bool.true_or, Bool.false_or, Bool.or_true, Bool.or_false, Bool.not_true, Bool.not_false, Bool.false_eq_true, bI_t, bI_f, Int.natCast_one, Int.cast_ofNat_Int, Int.natCast_zero, o24_0, o24_1, o24_2, o24_3, n24, o24s_0, o24s_1, o24s_2, o24s_3, m, m2]
    by_cases hn : n = n2
    · rw [if_pos hn, if_pos hn]
    · rw [if_neg hn, if_neg hn]
  have e2 : M2 (d + 1) 24001 [.ref b, .ref b2] H = some (.inl (some (.int (zI (if k = k2 then (if k = 1 ∧ t ≠ t2 then t - t2 else if n = n2 then r - r2 else n - n2) else k - k2)))), H) := by
    generalize (if n = n2 then r - r2 else n - n2) = ww at s50 ⊢
    rw [Y24001 H rfl (jrecv_in m rfl), F24001_0]
    simp (disch := first | assumption | omega | decide | exact okF_i | exact okF_r | exact okF_n | exact okF_j | rfl) only [jc_ref, rI_int, rR_ref, rR_null, rJ_long, ckR_ref, ckR_null, ckr_ref, ckr_null, ckW_int, ckW_ref, ckW_null, cI_ok, cR_ok, cR_null, cV_ok, cJ_ok, qH_eq, qD_in, aG_ref, aS_ref, aL_ref, pF_ref, cK_ref, cK_null, zI_lit, zJ_lit, zI_add, zI_sub, zI_mul, zI_neg, zI_eq, zI_lt, zI_le, Int.reduceLT, Int.reduceLE, Int.reduceAdd, Int.reduceSub, Int.reduceMul, Int.reduceNeg, Int.reduceEq, Int.reduceNe, reduceIte, jf_in, pFc_in, aGi, aGb, aSi, aLc_in, cKc_in, nA_in, jm_s1, jm_s2, jm_p1, jm_p2, jm_b, jn_b, jn_s, jn_p, jset_jset, jset_jpush2, ckR_is, ckr_is, rR_is, ckW_is, cR_is, obi2, ckW_int, eq_self, if_true, ref_null, if_false, ne_eq, not_true_eq_false, not_false_eq_true, decide_true, decide_false, decide_not, Bool.true_and, Bool.false_and, Bool.and_true, Bool.and_false, Bool.true_or, Bool.false_or, Bool.or_true, Bool.or_false, Bool.not_true, Bool.not_false, Bool.false_eq_true, bI_t, bI_f, Int.natCast_one, Int.cast_ofNat_Int, Int.natCast_zero, o24_0, o24_1, o24_2, o24_3, n24, o24s_0, o24s_1, o24s_2, o24s_3, m, m2, s50]
    by_cases hk : k = k2
    · rw [if_pos hk, if_pos hk]
      by_cases hk1 : k = 1
      · rw [if_pos hk1]
        by_cases ht : t = t2
        · rw [if_pos ht, if_neg (fun z => z.2 ht)]
        · rw [if_neg ht, if_pos ⟨hk1, ht⟩]
      · rw [if_neg hk1, if_neg (fun z => hk1 z.1)]
    · rw [if_neg hk, if_neg hk]
  refine ⟨if k = k2 then (if k = 1 ∧ t ≠ t2 then t - t2 else if n = n2 then r - r2 else n - n2) else k - k2, ?_, ?_⟩
  · rw [e1, Y24000 H rfl (jrecv_in m rfl), F24000_0]
    simp (disch := first | assumption | omega | decide | exact okF_i | exact okF_r | exact okF_n | exact okF_j | rfl) only [jc_ref, rI_int, rR_ref, rR_null, rJ_long, ckR_ref, ckR_null, ckr_ref, ckr_null, ckW_int, ckW_ref, ckW_null, cI_ok, cR_ok, cR_null, cV_ok, cJ_ok, qH_eq, qD_in, aG_ref, aS_ref, aL_ref, pF_ref, cK_ref, cK_null, zI_lit, zJ_lit, zI_add, zI_sub, zI_mul, zI_neg, zI_eq, zI_lt, zI_le, Int.reduceLT, Int.reduceLE, Int.reduceAdd, Int.reduceSub, Int.reduceMul, Int.reduceNeg, Int.reduceEq, Int.reduceNe, reduceIte, jf_in, pFc_in, aGi, aGb, aSi, aLc_in, cKc_in, nA_in, jm_s1, jm_s2, jm_p1, jm_p2, jm_b, jn_b, jn_s, jn_p, jset_jset, jset_jpush2, ckR_is, ckr_is, rR_is, ckW_is, cR_is, obi2, ckW_int, eq_self, if_true, ref_null, if_false, ne_eq, not_true_eq_false, not_false_eq_true, decide_true, decide_false, decide_not, Bool.true_and, Bool.false_and, Bool.and_true, Bool.and_false, Bool.true_or, Bool.false_or, Bool.or_true, Bool.or_false, Bool.not_true, Bool.not_false, Bool.false_eq_true, bI_t, bI_f, Int.natCast_one, Int.cast_ofNat_Int, Int.natCast_zero, o24_0, o24_1, o24_2, o24_3, n24, o24s_0, o24s_1, o24s_2, o24s_3, m2, e2]
  · unfold rnk
    by_cases hk : k = k2
    · rw [if_pos hk]
      subst hk
      by_cases hk1 : k = 1
      · subst hk1
        rw [if_pos rfl]
        by_cases ht : t = t2
        · subst ht
          rw [if_neg (fun z => z.2 rfl)]
          by_cases hn : n = n2
          · rw [if_pos hn]; omega
          · rw [if_neg hn]; omega
        · rw [if_pos ⟨rfl, ht⟩]; omega
      · rw [if_neg (fun z => hk1 z.1), if_neg hk1]
        by_cases hn : n = n2
        · rw [if_pos hn]; omega
        · rw [if_neg hn]; omega
    · rw [if_neg hk]
      by_cases hk1 : k = 1
      · rw [if_pos hk1, if_neg (by omega)]; omega
      · rw [if_neg hk1]
        by_cases hk2 : k2 = 1
        · rw [if_pos hk2]; omega
        · rw [if_neg hk2]; omega
end
def sg (f : Nat → Value) (lo : Nat) : Nat → List Value
  | 0 => []
  | n + 1 => f lo :: sg f (lo + 1) n
theorem sg_len {f : Nat → Value} : ∀ (n lo : Nat), (sg f lo n).length = n
  | 0, _ => rfl
  | n + 1, lo => by rw [sg, List.length_cons, sg_len n]
theorem sg_add {f : Nat → Value} {n : Nat} : ∀ (m lo : Nat), sg f lo (m + n) = sg f lo m ++ sg f (lo + m) n
  | 0, lo => by rw [Nat.zero_add]; rfl
  | m + 1, lo => by rw [show m + 1 + n = (m + n) + 1 by omega, sg, sg, sg_add m, show lo + 1 + m = lo + (m + 1) by omega]; rfl
theorem sg_cg {f g : Nat → Value} : ∀ (n lo : Nat), (∀ i, lo ≤ i → i < lo + n → f i = g i) → sg f lo n = sg g lo n
  | 0, _, _ => rfl
  | n + 1, lo, h => by rw [sg, sg, h lo (Nat.le_refl _) (by omega), sg_cg n (lo + 1) fun i a b => h i (by omega) (by omega)]
theorem sg_at {f : Nat → Value} : ∀ (n lo i : Nat), i < n → (sg f lo n)[i]? = some (f (lo + i))
  | n + 1, lo, 0, _ => rfl
  | n + 1, lo, i + 1, h => by
    rw [sg, List.getElem?_cons_succ, sg_at n (lo + 1) i (by omega), show lo + 1 + i = lo + (i + 1) by omega]
theorem sg_sh {f g : Nat → Value} {s : Nat} : ∀ (n lo : Nat), (∀ i, lo ≤ i → i < lo + n → f i = g (i + s)) → sg f lo n = sg g (lo + s) n
  | 0, _, _ => rfl
  | n + 1, lo, h => by rw [sg, sg, h lo (Nat.le_refl _) (by omega), sg_sh n (lo + 1) fun i a b => h i (by omega) (by omega), show lo + 1 + s = lo + s + 1 by omega]
/-- in a part the same things, elsewhere the same -/
def PmR (f g : Nat → Value) (lo n : Nat) : Prop := (sg g lo n).Perm (sg f lo n) ∧ ∀ i, i < lo ∨ lo + n ≤ i → g i = f i
theorem PmR.rf {f : Nat → Value} {lo n : Nat} : PmR f f lo n := ⟨List.Perm.refl _, fun _ _ => rfl⟩
theorem PmR.tr {f g h : Nat → Value} {lo n : Nat} (a : PmR f g lo n) (b : PmR g h lo n) : PmR f h lo n := ⟨b.1.trans a.1, fun i hi => (b.2 i hi).trans (a.2 i hi)⟩
theorem PmR.wd {f g : Nat → Value} {lo n lo2 n2 : Nat} (a : PmR f g lo n) (h1 : lo2 ≤ lo) (h2 : lo + n ≤ lo2 + n2) : PmR f g lo2 n2 := by
  refine ⟨?_, fun i hi => a.2 i (by omega)⟩
  obtain ⟨p, rfl⟩ := Nat.exists_eq_add_of_le h1
  obtain ⟨q, e⟩ := Nat.exists_eq_add_of_le h2
  have : n2 = p + (n + q) := by omega
  subst this
  rw [sg_add, sg_add, sg_add, sg_add, sg_cg p lo2 fun i a1 a2 => a.2 i (by omega), sg_cg q (lo2 + p + n) fun i a1 a2 => a.2 i (by omega)]
  exact List.Perm.append_left _ (List.Perm.append_right _ a.1)
theorem PmR.mem {f g : Nat → Value} {lo n : Nat} (a : PmR f g lo n) {P : Value → Prop} (h : ∀ i, lo ≤ i → i < lo + n → P (f i)) : ∀ i, lo ≤ i → i < lo + n → P (g i) := fun i i0 i1 => by
  have : g i ∈ sg g lo n := by
    have := sg_at (f := g) n lo (i - lo) (by omega)
    rw [show lo + (i - lo) = i by omega] at this
    exact List.mem_of_getElem? this
  obtain ⟨j, hj⟩ := List.getElem?_of_mem (a.1.mem_iff.mp this)
  have hjn : j < n := by
    by_cases h : j < n
    · exact h
    · rw [List.getElem?_eq_none (by rw [sg_len]; omega)] at hj; cases hj
  rw [sg_at n lo j hjn] at hj
  rw [← Option.some.inj hj]
  exact h _ (by omega) (by omega)
/-- one thing of a part is put ahead of some that are moved up -/
theorem PmR.ins {f g : Nat → Value} {lo n : Nat} (h0 : g lo = f (lo + n)) (h1 : ∀ i, lo < i → i ≤ lo + n → g i = f (i - 1)) (h2 : ∀ i, i < lo ∨ lo + n < i → g i = f i) : PmR f g lo (n + 1) := by
  refine ⟨?_, fun i hi => h2 i (by omega)⟩
  rw [sg, h0, sg_add n lo]
  have e : sg f lo n = sg g (lo + 1) n := sg_sh n lo fun i a b => by rw [h1 (i + 1) (by omega) (by omega)]; rfl
  rw [← e]
  show (f (lo + n) :: sg f lo n).Perm (sg f lo n ++ [f (lo + n)])
  exact (List.perm_append_singleton _ _).symm
/-- all is the other way round -/
theorem PmR.rev {f g : Nat → Value} {lo n : Nat} (h1 : ∀ i, lo ≤ i → i < lo + n → g i = f (lo + (lo + n - 1 - i))) (h2 : ∀ i, i < lo ∨ lo + n ≤ i → g i = f i) : PmR f g lo n := by
  refine ⟨?_, h2⟩
  have : sg g lo n = (sg f lo n).reverse := by
    apply List.ext_getElem?
    intro i
    by_cases hi : i < n
    · rw [sg_at n lo i hi, List.getElem?_reverse (by rw [sg_len]; exact hi), sg_len, sg_at n lo _ (by omega), h1 _ (by omega) (by omega), show lo + n - 1 - (lo + i) = n - 1 - i by omega]
    · rw [List.getElem?_eq_none (by rw [sg_len]; omega), List.getElem?_eq_none (by rw [List.length_reverse, sg_len]; omega)]
  rw [this]
  exact List.reverse_perm _
