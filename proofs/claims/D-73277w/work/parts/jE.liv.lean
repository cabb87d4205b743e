/-! the face: what was is kept, what was tried becomes what is -/
-- jc_ref, rI_int, rR_ref, rR_null, rJ_long, ckR_ref, ckR_null, ckr_ref, ckr_null, ckW_int, ckW_ref, ckW_null, cI_ok, cR_ok, cR_null, cV_ok, cJ_ok, qH_eq, qD_in, aG_ref, aS_ref, aL_ref, pF_ref, cK_ref, cK_null, zI_lit, zJ_lit, zI_add, zI_sub, zI_mul, zI_neg, zI_eq, zI_lt, zI_le, Int.reduceLT, Int.reduceLE, Int.reduceAdd, Int.reduceSub, Int.reduceMul, Int.reduceNeg, Int.reduceEq, Int.reduceNe, reduceIte, jf_in, pFc_in, aGi, aGb, aSi, aLc_in, cKc_in, nA_in, jm_s1, jm_s2, jm_p1, jm_p2, jm_b, jn_b, jn_s, jn_p, jset_jset, jset_jpush2, ckR_is, ckr_is, rR_is, ckW_is, cR_is, obi2, ckW_int, eq_self, if_true, ref_null, if_false, ne_eq, not_true_eq_false, not_false_eq_true, decide_true, decide_false, decide_not, Bool.true_and, Bool.false_and, Bool.and_true, Bool.and_false, Bool.true_or, Bool.false_or, Bool.or_true, Bool.or_false, Bool.not_true, Bool.not_false, Bool.false_eq_true, bI_t, bI_f, Int.natCast_one, Int.cast_ofNat_Int, Int.natCast_zero, o2_0, o2_1, o2_2, o2_3, o2_4, o2_5, o2_6, o2_7, o2_8, o2_9, o2_10, o2_11, o2_12, o2_13, o2_14, o2_15, o2_16, o2_17, n2, o2s_0, o2s_1, o2s_2, o2s_3, o2s_4, o2s_5, o2s_6, o2s_7, o2s_8, o2s_9, o2s_10, o2s_11, o2s_12, o2s_13, o2s_14, o2s_15, o2s_16, o2s_17, o23_0, o23_1, o23_2, n23, o23s_0, o23s_1, o23s_2, o4_0, o4_1, o4_2, o4_3, o4_4, o4_5, o4_6, n4, o4s_0, o4s_1, o4s_2, o4s_3, o4s_4, o4s_5, o4s_6, o24_0, o24_1, o24_2, o24_3, o26_0, o28_0, o22_0, o22_1, o22_2, o22_3, o22_4, o22_5, o47_0, o47_1, o47_2, o47_3, n47, o47s_0, o47s_1, o47s_2, o47s_3, o3_0, o3_1, o3_2, o3_3, o3_4, o12_0, o12_1, o13_0, o13_1, o13_2, o13_3, o13_4, o13_5, o13_6, o14_0, o14_1, o14_2, o14_3, o14_4, o14_5, o11_0, o11_1, o11_2, o11_3, o5_0, o5_1, o5_2, o5_3, o5_4, o5_5, o6_0, o6_1, o6_2, n6, o6s_0, o6s_1, o6s_2 = jc_ref, rI_int, rR_ref, rR_null, rJ_long, ckR_ref, ckR_null, ckr_ref, ckr_null, ckW_int, ckW_ref, ckW_null, cI_ok, cR_ok, cR_null, cV_ok, cJ_ok, qH_eq, qD_in, aG_ref, aS_ref, aL_ref, pF_ref, cK_ref, cK_null, zI_lit, zJ_lit, zI_add, zI_sub, zI_mul, zI_neg, zI_eq, zI_lt, zI_le, Int.reduceLT, Int.reduceLE, Int.reduceAdd, Int.reduceSub, Int.reduceMul, Int.reduceNeg, Int.reduceEq, Int.reduceNe, reduceIte, jf_in, pFc_in, aGi, aGb, aSi, aLc_in, cKc_in, nA_in, jm_s1, jm_s2, jm_p1, jm_p2, jm_b, jn_b, jn_s, jn_p, jset_jset, jset_jpush2, ckR_is, ckr_is, rR_is, ckW_is, cR_is, obi2, ckW_int, eq_self, if_true, ref_null, if_false, ne_eq, not_true_eq_false, not_false_eq_true, decide_true, decide_false, decide_not, Bool.true_and, Bool.false_and, Bool.and_true, Bool.and_false, Bool.true_or, Bool.false_or, Bool.or_true, Bool.or_false, Bool.not_true, Bool.not_false, Bool.false_eq_true, bI_t, bI_f, Int.natCast_one, Int.cast_ofNat_Int, Int.natCast_zero, o2_0, o2_1, o2_2, o2_3, o2_4, o2_5, o2_6, o2_7, o2_8, o2_9, o2_10, o2_11, o2_12, o2_13, o2_14, o2_15, o2_16, o2_17, n2, o2s_0, o2s_1, o2s_2, o2s_3, o2s_4, o2s_5, o2s_6, o2s_7, o2s_8, o2s_9, o2s_10, o2s_11, o2s_12, o2s_13, o2s_14, o2s_15, o2s_16, o2s_17, o23_0, o23_1, o23_2, n23, o23s_0, o23s_1, o23s_2, o4_0, o4_1, o4_2, o4_3, o4_4, o4_5, o4_6, n4, o4s_0, o4s_1, o4s_2, o4s_3, o4s_4, o4s_5, o4s_6, o24_0, o24_1, o24_2, o24_3, o26_0, o28_0, o22_0, o22_1, o22_2, o22_3, o22_4, o22_5, o47_0, o47_1, o47_2, o47_3, n47, o47s_0, o47s_1, o47s_2, o47s_3, o3_0, o3_1, o3_2, o3_3, o3_4, o12_0, o12_1, o13_0, o13_1, o13_2, o13_3, o13_4, o13_5, o13_6, o14_0, o14_1, o14_2, o14_3, o14_4, o14_5, o11_0, o11_1, o11_2, o11_3, o5_0, o5_1, o5_2, o5_3, o5_4, o5_5, o6_0, o6_1, o6_2, n6, o6s_0, o6s_1, o6s_2
/-- the cells that keeping writes -/
def LvP (x z : Nat) : Prop := z = x ∨ StP (x + 7) z ∨ z = x + 35 ∨ ∃ k, k < 8 ∧ StP (x + 60 + 9 * k) z
section
variable {d m : Nat} {h H H2 : AH} {x a b e n : Nat} {T T' : Nat → Int → Int} {S2 : Int → Int} {i : Int} {P : Nat → Prop} {sc vl tq : Nat} {sen ver : Value} {seed : Int} {f : Nat → Value} {β : Type} {t : Nat} {c : Nat × (Nat → Value)}
/-- a reference is laid into an array of stores, of what is kept -/
theorem aA_st {κ : AH → Option β} {u : Ph κ} {t2 : Nat} (hm : jm H e = some (t, n, f)) (hb : jm H b = some (t2, c)) (ht : (t = 1050 ∧ t2 = 4) ∨ (t = 1060 ∧ t2 = 6)) (h1 : 0 ≤ i) (h2 : i < (n : Int)) (hn : n < 2147483648) : zqA H (.ref e) (.ref b) (zI i) κ u = κ (jset H e (t, n, ju f i.toNat (.ref b))) := by
  show aSr H (.ref e) (.ref b) (zI i) κ = _
  have ok : okA H (.ref e) (.ref b) = true := by
    simp only [okA, jc_ref, hm, hb]
    rcases ht with ⟨rfl, rfl⟩ | ⟨rfl, rfl⟩ <;> rfl
  unfold aSr
  rw [ok]
  have x : aS H (.ref e) [1040, 1050, 1060] (zI i) (.ref b) κ = aSc H e (jm H e) [1040, 1050, 1060] (zI i) (.ref b) κ () := rfl
  show aS H (.ref e) [1040, 1050, 1060] (zI i) (.ref b) κ = _
  rw [x, hm]
  rcases ht with ⟨rfl, rfl⟩ | ⟨rfl, rfl⟩
  · exact aSc_V rfl h1 h2 hn
  · exact aSc_V rfl h1 h2 hn
theorem LvP.bf {z : Nat} (h : LvP x z) : FcW x z := by
  rcases h with h | h | h | ⟨k, hk, h⟩
  · exact Or.inl h
  · exact FcW.now h
  · exact Or.inr (Or.inr (Or.inr (Or.inr (Or.inr (Or.inr (Or.inl h))))))
  · exact FcW.bef hk h
theorem LvP.far {z : Nat} (h : LvP x z) : z = x ∨ (x + 7 ≤ z ∧ z ≤ x + 14) ∨ z = x + 35 ∨ (x + 60 ≤ z ∧ z < x + 132) := by
  unfold LvP StP at h
  rcases h with h | h | h | ⟨k, hk, h⟩ <;> omega
/-- the stores that are kept, moved on by one place -/
theorem sn_18 {n0 : Int} {bp : Nat → Nat} (o : jm H x = some (2, 18, o2 (.ref (x + 1)) (T 0 2) (T 0 16) (.ref sc) (.ref (x + 7)) (.ref (x + 16)) (.ref (x + 25)) (.ref (x + 30)) sen (.ref (x + 35)) 8 ver (.ref vl) (.ref (x + 37)) (.ref tq) seed (.ref (x + 38)) (.ref (x + 39)))) (hx : x + 132 ≤ H.1) (hst : ∀ k, k < 8 → ∃ c, jm H (x + 60 + 9 * k) = some (4, c)) (hbp : ∀ k, k < 8 → bp k < 8) :
    ∀ (j i : Nat) (f : Nat → Value), i + j = 8 → 1 ≤ i → (∀ k, k < 8 → f k = .ref (x + 60 + 9 * bp (if k + 1 < i then k + 1 else k))) → ∃ g H2, G2 (d + 4) 2043 18 [.ref x, .ref (x + 60 + 9 * bp 0), .int (zI i)] [] (jset H (x + 35) (1050, 8, f)) = G2 (d + 4) 2043 62 [.ref x, .ref (x + 60 + 9 * bp 0), .int (zI 8)] [] H2 ∧
      H2 = jset (jset H (x + 35) (1050, 8, g)) x (2, 18, o2 (.ref (x + 1)) (T 0 2) (T 0 16) (.ref sc) (.ref (x + 7)) (.ref (x + 16)) (.ref (x + 25)) (.ref (x + 30)) sen (.ref (x + 35)) 7 ver (.ref vl) (.ref (x + 37)) (.ref tq) seed (.ref (x + 38)) (.ref (x + 39))) ∧ ∀ k, k < 8 → g k = .ref (x + 60 + 9 * bp (if k = 7 then 0 else k + 1)) := by
  intro j
  induction j with
  | zero =>
    intro i f hi i1 hf
    have i8 : i = 8 := by omega
    subst i8
    obtain ⟨H1, hH1⟩ : ∃ H1, H1 = jset H (x + 35) (1050, 8, f) := ⟨_, rfl⟩
    have m1 : jm H1 (x + 35) = some (1050, 8, f) := by rw [hH1]; exact jm_s1
    have o1 : jm H1 x = some (2, 18, o2 (.ref (x + 1)) (T 0 2) (T 0 16) (.ref sc) (.ref (x + 7)) (.ref (x + 16)) (.ref (x + 25)) (.ref (x + 30)) sen (.ref (x + 35)) 8 ver (.ref vl) (.ref (x + 37)) (.ref tq) seed (.ref (x + 38)) (.ref (x + 39))) := by rw [hH1, jm_s2 (by omega)]; exact o
    obtain ⟨c, hc⟩ := hst (bp 0) (hbp 0 (by omega))
    have c1 : jm H1 (x + 60 + 9 * bp 0) = some (4, c) := by rw [hH1, jm_s2 (by omega)]; exact hc
    have aa := fun (κ : AH → Rz) (u : Ph κ) => aA_st (κ := κ) (u := u) (i := 7) m1 c1 (Or.inl ⟨rfl, rfl⟩) (by omega) (by omega) (by omega)
    obtain ⟨H2, hH2⟩ : ∃ H2, H2 = jset H1 (x + 35) (1050, 8, ju f 7 (.ref (x + 60 + 9 * bp 0))) := ⟨_, rfl⟩
    have e7 : (7 : Int).toNat = 7 := rfl
    rw [e7, ← hH2] at aa
    have o2' : jm H2 x = some (2, 18, o2 (.ref (x + 1)) (T 0 2) (T 0 16) (.ref sc) (.ref (x + 7)) (.ref (x + 16)) (.ref (x + 25)) (.ref (x + 30)) sen (.ref (x + 35)) 8 ver (.ref vl) (.ref (x + 37)) (.ref tq) seed (.ref (x + 38)) (.ref (x + 39))) := by rw [hH2, jm_s2 (by omega)]; exact o1
    have h22 : H2 = jset H (x + 35) (1050, 8, ju f 7 (.ref (x + 60 + 9 * bp 0))) := by rw [hH2, hH1, jset_jset]
    obtain ⟨H3, hH3⟩ : ∃ H3, H3 = jset H2 x (2, 18, o2 (.ref (x + 1)) (T 0 2) (T 0 16) (.ref sc) (.ref (x + 7)) (.ref (x + 16)) (.ref (x + 25)) (.ref (x + 30)) sen (.ref (x + 35)) 7 ver (.ref vl) (.ref (x + 37)) (.ref tq) seed (.ref (x + 38)) (.ref (x + 39))) := ⟨_, rfl⟩
    refine ⟨ju f 7 (.ref (x + 60 + 9 * bp 0)), H3, ?_, by rw [hH3, h22], fun k hk => ?_⟩
    · rw [← hH1]
      conv => lhs; rw [F2043_18]
      show (if zI 8 ≤ zI ((8 : Nat) : Int) then _ else _) = _
      simp (disch := first | assumption | omega | decide | exact okF_i | exact okF_r | exact okF_n | exact okF_j | rfl) only [jc_ref, rI_int, rR_ref, rR_null, rJ_long, ckR_ref, ckR_null, ckr_ref, ckr_null, ckW_int, ckW_ref, ckW_null, cI_ok, cR_ok, cR_null, cV_ok, cJ_ok, qH_eq, qD_in, aG_ref, aS_ref, aL_ref, pF_ref, cK_ref, cK_null, zI_lit, zJ_lit, zI_add, zI_sub, zI_mul, zI_neg, zI_eq, zI_lt, zI_le, Int.reduceLT, Int.reduceLE, Int.reduceAdd, Int.reduceSub, Int.reduceMul, Int.reduceNeg, Int.reduceEq, Int.reduceNe, reduceIte, jf_in, pFc_in, aGi, aGb, aSi, aLc_in, cKc_in, nA_in, jm_s1, jm_s2, jm_p1, jm_p2, jm_b, jn_b, jn_s, jn_p, jset_jset, jset_jpush2, ckR_is, ckr_is, rR_is, ckW_is, cR_is, obi2, ckW_int, eq_self, if_true, ref_null, if_false, ne_eq, not_true_eq_false, not_false_eq_true, decide_true, decide_false, decide_not, Bool.true_and, Bool.false_and, Bool.and_true, Bool.and_false, Bool.true_or, Bool.false_or, Bool.or_true, Bool.or_false, Bool.not_true, Bool.not_false, Bool.false_eq_true, bI_t, bI_f, Int.natCast_one, Int.cast_ofNat_Int, Int.natCast_zero, o2_0, o2_1, o2_2, o2_3, o2_4, o2_5, o2_6, o2_7, o2_8, o2_9, o2_10, o2_11, o2_12, o2_13, o2_14, o2_15, o2_16, o2_17, n2, o2s_0, o2s_1, o2s_2, o2s_3, o2s_4, o2s_5, o2s_6, o2s_7, o2s_8, o2s_9, o2s_10, o2s_11, o2s_12, o2s_13, o2s_14, o2s_15, o2s_16, o2s_17, o23_0, o23_1, o23_2, n23, o23s_0, o23s_1, o23s_2, o4_0, o4_1, o4_2, o4_3, o4_4, o4_5, o4_6, n4, o4s_0, o4s_1, o4s_2, o4s_3, o4s_4, o4s_5, o4s_6, o24_0, o24_1, o24_2, o24_3, o26_0, o28_0, o22_0, o22_1, o22_2, o22_3, o22_4, o22_5, o47_0, o47_1, o47_2, o47_3, n47, o47s_0, o47s_1, o47s_2, o47s_3, o3_0, o3_1, o3_2, o3_3, o3_4, o12_0, o12_1, o13_0, o13_1, o13_2, o13_3, o13_4, o13_5, o13_6, o14_0, o14_1, o14_2, o14_3, o14_4, o14_5, o11_0, o11_1, o11_2, o11_3, o5_0, o5_1, o5_2, o5_3, o5_4, o5_5, o6_0, o6_1, o6_2, n6, o6s_0, o6s_1, o6s_2, o1, aa, o2', ← hH3]
      try rfl
    · by_cases c7 : k = 7
      · rw [if_pos c7, c7]; exact ju_self
      · rw [if_neg c7, ju_ne (by omega), hf k hk, if_pos (by omega)]
  | succ j ih =>
    intro i f hi i1 hf
    obtain ⟨H1, hH1⟩ : ∃ H1, H1 = jset H (x + 35) (1050, 8, f) := ⟨_, rfl⟩
    have m1 : jm H1 (x + 35) = some (1050, 8, f) := by rw [hH1]; exact jm_s1
    have o1 : jm H1 x = some (2, 18, o2 (.ref (x + 1)) (T 0 2) (T 0 16) (.ref sc) (.ref (x + 7)) (.ref (x + 16)) (.ref (x + 25)) (.ref (x + 30)) sen (.ref (x + 35)) 8 ver (.ref vl) (.ref (x + 37)) (.ref tq) seed (.ref (x + 38)) (.ref (x + 39))) := by rw [hH1, jm_s2 (by omega)]; exact o
    have fi : f i = .ref (x + 60 + 9 * bp i) := by rw [hf i (by omega), if_neg (by omega)]
    obtain ⟨c, hc⟩ := hst (bp i) (hbp i (by omega))
    have c1 : jm H1 (x + 60 + 9 * bp i) = some (4, c) := by rw [hH1, jm_s2 (by omega)]; exact hc
    have aa := fun (κ : AH → Rz) (u : Ph κ) => aA_st (κ := κ) (u := u) (i := (i : Int) - 1) m1 c1 (Or.inl ⟨rfl, rfl⟩) (by omega) (by omega) (by omega)
    have ei : ((i : Int) - 1).toNat = i - 1 := by omega
    rw [ei] at aa
    have e2 : jset H1 (x + 35) (1050, 8, ju f (i - 1) (.ref (x + 60 + 9 * bp i))) = jset H (x + 35) (1050, 8, ju f (i - 1) (.ref (x + 60 + 9 * bp i))) := by rw [hH1, jset_jset]
    rw [e2] at aa
    obtain ⟨g, H2, r1, r2, r3⟩ := ih (i + 1) (ju f (i - 1) (.ref (x + 60 + 9 * bp i))) (by omega) (by omega) fun k hk => by
      by_cases ck : k = i - 1
      · rw [ck, ju_self, if_pos (by omega), show i - 1 + 1 = i by omega]
      · rw [ju_ne ck, hf k hk]
        by_cases c2 : k + 1 < i
        · rw [if_pos c2, if_pos (by omega)]
        · rw [if_neg c2, if_neg (by omega)]
    refine ⟨g, H2, ?_, r2, r3⟩
    have i8 : ¬ (8 : Int) ≤ i := by omega
    have it : ((i : Int)).toNat = i := by omega
    have e35 : ([1040, 1041, 1050, 1060, 1071] : List Nat).elem 1050 = true := rfl
    rw [← r1, ← hH1]
    conv => lhs; rw [F2043_18]
    simp (disch := first | assumption | omega | decide | exact okF_i | exact okF_r | exact okF_n | exact okF_j | rfl) only [jc_ref, rI_int, rR_ref, rR_null, rJ_long, ckR_ref, ckR_null, ckr_ref, ckr_null, ckW_int, ckW_ref, ckW_null, cI_ok, cR_ok, cR_null, cV_ok, cJ_ok, qH_eq, qD_in, aG_ref, aS_ref, aL_ref, pF_ref, cK_ref, cK_null, zI_lit, zJ_lit, zI_add, zI_sub, zI_mul, zI_neg, zI_eq, zI_lt, zI_le, Int.reduceLT, Int.reduceLE, Int.reduceAdd, Int.reduceSub, Int.reduceMul, Int.reduceNeg, Int.reduceEq, Int.reduceNe, reduceIte, jf_in, pFc_in, aGi, aGb, aSi, aLc_in, cKc_in, nA_in, jm_s1, jm_s2, jm_p1, jm_p2, jm_b, jn_b, jn_s, jn_p, jset_jset, jset_jpush2, ckR_is, ckr_is, rR_is, ckW_is, cR_is, obi2, ckW_int, eq_self, if_true, ref_null, if_false, ne_eq, not_true_eq_false, not_false_eq_true, decide_true, decide_false, decide_not, Bool.true_and, Bool.false_and, Bool.and_true, Bool.and_false, Bool.true_or, Bool.false_or, Bool.or_true, Bool.or_false, Bool.not_true, Bool.not_false, Bool.false_eq_true, bI_t, bI_f, Int.natCast_one, Int.cast_ofNat_Int, Int.natCast_zero, o2_0, o2_1, o2_2, o2_3, o2_4, o2_5, o2_6, o2_7, o2_8, o2_9, o2_10, o2_11, o2_12, o2_13, o2_14, o2_15, o2_16, o2_17, n2, o2s_0, o2s_1, o2s_2, o2s_3, o2s_4, o2s_5, o2s_6, o2s_7, o2s_8, o2s_9, o2s_10, o2s_11, o2s_12, o2s_13, o2s_14, o2s_15, o2s_16, o2s_17, o23_0, o23_1, o23_2, n23, o23s_0, o23s_1, o23s_2, o4_0, o4_1, o4_2, o4_3, o4_4, o4_5, o4_6, n4, o4s_0, o4s_1, o4s_2, o4s_3, o4s_4, o4s_5, o4s_6, o24_0, o24_1, o24_2, o24_3, o26_0, o28_0, o22_0, o22_1, o22_2, o22_3, o22_4, o22_5, o47_0, o47_1, o47_2, o47_3, n47, o47s_0, o47s_1, o47s_2, o47s_3, o3_0, o3_1, o3_2, o3_3, o3_4, o12_0, o12_1, o13_0, o13_1, o13_2, o13_3, o13_4, o13_5, o13_6, o14_0, o14_1, o14_2, o14_3, o14_4, o14_5, o11_0, o11_1, o11_2, o11_3, o5_0, o5_1, o5_2, o5_3, o5_4, o5_5, o6_0, o6_1, o6_2, n6, o6s_0, o6s_1, o6s_2, o1, m1, aGc_V, it, fi, aa, i8]
    try rfl
set_option maxRecDepth 8000 in
/-- what was is kept, what was tried becomes what is -/
theorem c_lives (o : ObI x H T sc sen ver vl tq seed) (now : StR (FcW x) H (x + 7) sc (T 2)) (W : StW (T 2)) (be : BeI x H T sc) (n0 : 0 ≤ T 0 44) (n8 : T 0 44 ≤ 8) (tr : StR (FcW x) H (x + 16) sc S2) (W2 : StW S2)
    (e2 : ∀ i, i < 148 → T' 2 i = T 2 i) (e44 : T' 0 44 = if T 0 44 = 8 then 8 else T 0 44 + 1) (eo : ∀ k : Nat, (k : Int) + 1 < T' 0 44 → ∀ i, 148 ≤ i → i < 1239 → imS T' k i = imS T (if T 0 44 = 8 then k + 1 else k) i) (en : ∀ i, 148 ≤ i → i < 1239 → imS T' (T' 0 44 - 1) i = T 2 i) :
    ∃ H2, M2 (d + 6) 2027 [.ref x] H = some (.inl none, H2) ∧ Fr H H2 (LvP x) ∧ H2.1 = H.1 ∧ H2.2.1 = H.2.1 ∧ jm H2 x = some (2, 18, o2 (.ref (x + 1)) (T 0 2) (T 0 16) (.ref sc) (.ref (x + 7)) (.ref (x + 16)) (.ref (x + 25)) (.ref (x + 30)) sen (.ref (x + 35)) (T' 0 44) ver (.ref vl) (.ref (x + 37)) (.ref tq) seed (.ref (x + 38)) (.ref (x + 39))) ∧ StR (FcW x) H2 (x + 7) sc S2 ∧ BeI x H2 T' sc := by
  obtain ⟨fb, bp, a1, a2, a3, a4, a5⟩ := be
  have m0 := o.2.1
  have oH := o.1
  have hsn := o.2.2.1
  have hvr := o.2.2.2
  have e35 : ([1040, 1041, 1050, 1060, 1071] : List Nat).elem 1050 = true := rfl
  have hst : ∀ k, k < 8 → ∃ c, jm H (x + 60 + 9 * k) = some (4, c) := fun k hk => by
    obtain ⟨v, ins, on, l1, l2, l3, wl, bs, hh⟩ := a4 k hk
    exact ⟨_, hh.1⟩
  -- the place where it is kept
  have key : ∃ (H1 : AH) (fb1 : Nat → Value) (bp1 : Nat → Nat) (n1 : Int) (v1 v2 : Value), G2 (d + 4) 2043 0 [.ref x, jno, jno] [] H = G2 (d + 4) 2043 62 [.ref x, v1, v2] [] H1 ∧ Fr H H1 (fun z => z = x ∨ z = x + 35) ∧ H1.1 = H.1 ∧ H1.2.1 = H.2.1 ∧ n1 = T' 0 44 - 1 ∧ (0 ≤ n1 ∧ n1 ≤ 7) ∧
      jm H1 x = some (2, 18, o2 (.ref (x + 1)) (T 0 2) (T 0 16) (.ref sc) (.ref (x + 7)) (.ref (x + 16)) (.ref (x + 25)) (.ref (x + 30)) sen (.ref (x + 35)) n1 ver (.ref vl) (.ref (x + 37)) (.ref tq) seed (.ref (x + 38)) (.ref (x + 39))) ∧
      jm H1 (x + 35) = some (1050, 8, fb1) ∧ (∀ k, k < 8 → bp1 k < 8 ∧ fb1 k = .ref (x + 60 + 9 * bp1 k)) ∧ (∀ i j, i < 8 → j < 8 → bp1 i = bp1 j → i = j) ∧ (∀ k : Nat, (k : Int) < n1 → bp1 k = bp (if T 0 44 = 8 then k + 1 else k)) := by
    by_cases c : T 0 44 = 8
    · obtain ⟨g, H2, r1, r2, r3⟩ := sn_18 (T := T) (d := d) (n0 := 0) (bp := bp) (by rw [← c]; exact m0) oH hst (fun k hk => (a2 k hk).1) 7 1 fb rfl (Nat.le_refl _) (fun k hk => by rw [if_neg (by omega)]; exact (a2 k hk).2)
      rw [jset_same a1] at r1
      have f0 : fb 0 = .ref (x + 60 + 9 * bp 0) := (a2 0 (by omega)).2
      refine ⟨H2, g, fun k => bp (if k = 7 then 0 else k + 1), 7, .ref (x + 60 + 9 * bp 0), .int (zI 8), ?_, ?_, by rw [r2]; rfl, by rw [r2]; rfl, by rw [e44, if_pos c]; rfl, by omega, by rw [r2]; exact jm_s1, by rw [r2, jm_s2 (by omega)]; exact jm_s1, fun k hk => ⟨?_, r3 k hk⟩, fun i j hi hj he => ?_, fun k hk => ?_⟩
      · rw [← r1, F2043_0]
        have cc : T 0 44 = 8 := c
        have z0 : (0 : Int).toNat = 0 := rfl
        rw [c] at m0
        simp (disch := first | assumption | omega | decide | exact okF_i | exact okF_r | exact okF_n | exact okF_j | rfl) only [jc_ref, rI_int, rR_ref, rR_null, rJ_long, ckR_ref, ckR_null, ckr_ref, ckr_null, ckW_int, ckW_ref, ckW_null, cI_ok, cR_ok, cR_null, cV_ok, cJ_ok, qH_eq, qD_in, aG_ref, aS_ref, aL_ref, pF_ref, cK_ref, cK_null, zI_lit, zJ_lit, zI_add, zI_sub, zI_mul, zI_neg, zI_eq, zI_lt, zI_le, Int.reduceLT, Int.reduceLE, Int.reduceAdd, Int.reduceSub, Int.reduceMul, Int.reduceNeg, Int.reduceEq, Int.reduceNe, reduceIte, jf_in, pFc_in, aGi, aGb, aSi, aLc_in, cKc_in, nA_in, jm_s1, jm_s2, jm_p1, jm_p2, jm_b, jn_b, jn_s, jn_p, jset_jset, jset_jpush2, ckR_is, ckr_is, rR_is, ckW_is, cR_is, obi2, ckW_int, eq_self, if_true, ref_null, if_false, ne_eq, not_true_eq_false, not_false_eq_true, decide_true, decide_false, decide_not, Bool.true_and, Bool.false_and, Bool.and_true, Bool.and_false, Bool.true_or, Bool.false_or, Bool.or_true, Bool.or_false, Bool.not_true, Bool.not_false, Bool.false_eq_true, bI_t, bI_f, Int.natCast_one, Int.cast_ofNat_Int, Int.natCast_zero, o2_0, o2_1, o2_2, o2_3, o2_4, o2_5, o2_6, o2_7, o2_8, o2_9, o2_10, o2_11, o2_12, o2_13, o2_14, o2_15, o2_16, o2_17, n2, o2s_0, o2s_1, o2s_2, o2s_3, o2s_4, o2s_5, o2s_6, o2s_7, o2s_8, o2s_9, o2s_10, o2s_11, o2s_12, o2s_13, o2s_14, o2s_15, o2s_16, o2s_17, o23_0, o23_1, o23_2, n23, o23s_0, o23s_1, o23s_2, o4_0, o4_1, o4_2, o4_3, o4_4, o4_5, o4_6, n4, o4s_0, o4s_1, o4s_2, o4s_3, o4s_4, o4s_5, o4s_6, o24_0, o24_1, o24_2, o24_3, o26_0, o28_0, o22_0, o22_1, o22_2, o22_3, o22_4, o22_5, o47_0, o47_1, o47_2, o47_3, n47, o47s_0, o47s_1, o47s_2, o47s_3, o3_0, o3_1, o3_2, o3_3, o3_4, o12_0, o12_1, o13_0, o13_1, o13_2, o13_3, o13_4, o13_5, o13_6, o14_0, o14_1, o14_2, o14_3, o14_4, o14_5, o11_0, o11_1, o11_2, o11_3, o5_0, o5_1, o5_2, o5_3, o5_4, o5_5, o6_0, o6_1, o6_2, n6, o6s_0, o6s_1, o6s_2, m0, a1, aGc_V, z0, f0]
        try rfl
      · rw [r2]; exact (Fr.set (P := fun z => z = x ∨ z = x + 35) (Or.inr rfl)).tr (Fr.set (Or.inl rfl))
      · show bp (if k = 7 then 0 else k + 1) < 8
        split
        · exact (a2 0 (by omega)).1
        · exact (a2 (k + 1) (by omega)).1
      · have he : bp (if i = 7 then 0 else i + 1) = bp (if j = 7 then 0 else j + 1) := he
        have := a3 (if i = 7 then 0 else i + 1) (if j = 7 then 0 else j + 1) (by split <;> omega) (by split <;> omega) he
        split at this <;> split at this <;> omega
      · show bp (if k = 7 then 0 else k + 1) = _
        rw [if_pos c, if_neg (by omega)]
    · refine ⟨H, fb, bp, T 0 44, jno, jno, ?_, Fr.rf, rfl, rfl, by rw [e44, if_neg c]; omega, by omega, m0, a1, a2, a3, fun k hk => by rw [if_neg c]⟩
      rw [F2043_0]
      simp (disch := first | assumption | omega | decide | exact okF_i | exact okF_r | exact okF_n | exact okF_j | rfl) only [jc_ref, rI_int, rR_ref, rR_null, rJ_long, ckR_ref, ckR_null, ckr_ref, ckr_null, ckW_int, ckW_ref, ckW_null, cI_ok, cR_ok, cR_null, cV_ok, cJ_ok, qH_eq, qD_in, aG_ref, aS_ref, aL_ref, pF_ref, cK_ref, cK_null, zI_lit, zJ_lit, zI_add, zI_sub, zI_mul, zI_neg, zI_eq, zI_lt, zI_le, Int.reduceLT, Int.reduceLE, Int.reduceAdd, Int.reduceSub, Int.reduceMul, Int.reduceNeg, Int.reduceEq, Int.reduceNe, reduceIte, jf_in, pFc_in, aGi, aGb, aSi, aLc_in, cKc_in, nA_in, jm_s1, jm_s2, jm_p1, jm_p2, jm_b, jn_b, jn_s, jn_p, jset_jset, jset_jpush2, ckR_is, ckr_is, rR_is, ckW_is, cR_is, obi2, ckW_int, eq_self, if_true, ref_null, if_false, ne_eq, not_true_eq_false, not_false_eq_true, decide_true, decide_false, decide_not, Bool.true_and, Bool.false_and, Bool.and_true, Bool.and_false, Bool.true_or, Bool.false_or, Bool.or_true, Bool.or_false, Bool.not_true, Bool.not_false, Bool.false_eq_true, bI_t, bI_f, Int.natCast_one, Int.cast_ofNat_Int, Int.natCast_zero, o2_0, o2_1, o2_2, o2_3, o2_4, o2_5, o2_6, o2_7, o2_8, o2_9, o2_10, o2_11, o2_12, o2_13, o2_14, o2_15, o2_16, o2_17, n2, o2s_0, o2s_1, o2s_2, o2s_3, o2s_4, o2s_5, o2s_6, o2s_7, o2s_8, o2s_9, o2s_10, o2s_11, o2s_12, o2s_13, o2s_14, o2s_15, o2s_16, o2s_17, o23_0, o23_1, o23_2, n23, o23s_0, o23s_1, o23s_2, o4_0, o4_1, o4_2, o4_3, o4_4, o4_5, o4_6, n4, o4s_0, o4s_1, o4s_2, o4s_3, o4s_4, o4s_5, o4s_6, o24_0, o24_1, o24_2, o24_3, o26_0, o28_0, o22_0, o22_1, o22_2, o22_3, o22_4, o22_5, o47_0, o47_1, o47_2, o47_3, n47, o47s_0, o47s_1, o47s_2, o47s_3, o3_0, o3_1, o3_2, o3_3, o3_4, o12_0, o12_1, o13_0, o13_1, o13_2, o13_3, o13_4, o13_5, o13_6, o14_0, o14_1, o14_2, o14_3, o14_4, o14_5, o11_0, o11_1, o11_2, o11_3, o5_0, o5_1, o5_2, o5_3, o5_4, o5_5, o6_0, o6_1, o6_2, n6, o6s_0, o6s_1, o6s_2, m0, c]
  obtain ⟨H1, fb1, bp1, n1, v1, v2, g1, F1, z1, z2, hn1, ⟨n10, n17⟩, m1, b1, b2, b3, b4⟩ := key
  have nn : ((n1.toNat : Nat) : Int) = n1 := by omega
  have bk := b2 n1.toNat (by omega)
  have P1 : ∀ z, (z = x ∨ z = x + 35) → LvP x z := fun z hz => hz.elim Or.inl fun e => Or.inr (Or.inr (Or.inl e))
  have P1b : ∀ z, (z = x ∨ z = x + 35) → FcW x z := fun z hz => (P1 z hz).bf
  have now1 : StR (FcW x) H1 (x + 7) sc (T 2) := now.fr F1 (fun z hz e => by unfold StP at hz; omega) (fun z _ e => P1b z e)
  have tr1 : StR (FcW x) H1 (x + 16) sc S2 := tr.fr F1 (fun z hz e => by unfold StP at hz; omega) (fun z _ e => P1b z e)
  have gk : StG H1 (x + 60 + 9 * bp1 n1.toNat) := (a4 _ bk.1).fr F1 (fun z hz e => by unfold StP at hz; omega)
  have hBk : ∀ z, StP (x + 60 + 9 * bp1 n1.toNat) z → FcW x z := fun z hz => FcW.bef bk.1 hz
  obtain ⟨H3, s1, s2, s3, s4, s5⟩ := st_as (d := d + 1) hBk gk now1 W (by omega)
  have m3 : jm H3 x = some (2, 18, o2 (.ref (x + 1)) (T 0 2) (T 0 16) (.ref sc) (.ref (x + 7)) (.ref (x + 16)) (.ref (x + 25)) (.ref (x + 30)) sen (.ref (x + 35)) n1 ver (.ref vl) (.ref (x + 37)) (.ref tq) seed (.ref (x + 38)) (.ref (x + 39))) := (s3.2.2 _ (by omega) (fun e => by unfold StP at e; omega)).trans m1
  obtain ⟨H4, hH4⟩ : ∃ H4, H4 = jset H3 x (2, 18, o2 (.ref (x + 1)) (T 0 2) (T 0 16) (.ref sc) (.ref (x + 7)) (.ref (x + 16)) (.ref (x + 25)) (.ref (x + 30)) sen (.ref (x + 35)) (n1 + 1) ver (.ref vl) (.ref (x + 37)) (.ref tq) seed (.ref (x + 38)) (.ref (x + 39))) := ⟨_, rfl⟩
  have m4 : jm H4 x = some (2, 18, o2 (.ref (x + 1)) (T 0 2) (T 0 16) (.ref sc) (.ref (x + 7)) (.ref (x + 16)) (.ref (x + 25)) (.ref (x + 30)) sen (.ref (x + 35)) (n1 + 1) ver (.ref vl) (.ref (x + 37)) (.ref tq) seed (.ref (x + 38)) (.ref (x + 39))) := by rw [hH4]; exact jm_s1
  have F4 : Fr H3 H4 (fun z => z = x) := by rw [hH4]; exact Fr.set rfl
  have n4 : H4.1 = H3.1 ∧ H4.2.1 = H3.2.1 := by rw [hH4]; exact ⟨rfl, rfl⟩
  have snap : M2 (d + 5) 2043 [.ref x] H = some (.inl none, H4) := by
    have fk := bk.2
    rw [Y2043 H (rv2 (by rfl) m0), g1, F2043_62]
    simp (disch := first | assumption | omega | decide | exact okF_i | exact okF_r | exact okF_n | exact okF_j | rfl) only [jc_ref, rI_int, rR_ref, rR_null, rJ_long, ckR_ref, ckR_null, ckr_ref, ckr_null, ckW_int, ckW_ref, ckW_null, cI_ok, cR_ok, cR_null, cV_ok, cJ_ok, qH_eq, qD_in, aG_ref, aS_ref, aL_ref, pF_ref, cK_ref, cK_null, zI_lit, zJ_lit, zI_add, zI_sub, zI_mul, zI_neg, zI_eq, zI_lt, zI_le, Int.reduceLT, Int.reduceLE, Int.reduceAdd, Int.reduceSub, Int.reduceMul, Int.reduceNeg, Int.reduceEq, Int.reduceNe, reduceIte, jf_in, pFc_in, aGi, aGb, aSi, aLc_in, cKc_in, nA_in, jm_s1, jm_s2, jm_p1, jm_p2, jm_b, jn_b, jn_s, jn_p, jset_jset, jset_jpush2, ckR_is, ckr_is, rR_is, ckW_is, cR_is, obi2, ckW_int, eq_self, if_true, ref_null, if_false, ne_eq, not_true_eq_false, not_false_eq_true, decide_true, decide_false, decide_not, Bool.true_and, Bool.false_and, Bool.and_true, Bool.and_false, Bool.true_or, Bool.false_or, Bool.or_true, Bool.or_false, Bool.not_true, Bool.not_false, Bool.false_eq_true, bI_t, bI_f, Int.natCast_one, Int.cast_ofNat_Int, Int.natCast_zero, o2_0, o2_1, o2_2, o2_3, o2_4, o2_5, o2_6, o2_7, o2_8, o2_9, o2_10, o2_11, o2_12, o2_13, o2_14, o2_15, o2_16, o2_17, n2, o2s_0, o2s_1, o2s_2, o2s_3, o2s_4, o2s_5, o2s_6, o2s_7, o2s_8, o2s_9, o2s_10, o2s_11, o2s_12, o2s_13, o2s_14, o2s_15, o2s_16, o2s_17, o23_0, o23_1, o23_2, n23, o23s_0, o23s_1, o23s_2, o4_0, o4_1, o4_2, o4_3, o4_4, o4_5, o4_6, n4, o4s_0, o4s_1, o4s_2, o4s_3, o4s_4, o4s_5, o4s_6, o24_0, o24_1, o24_2, o24_3, o26_0, o28_0, o22_0, o22_1, o22_2, o22_3, o22_4, o22_5, o47_0, o47_1, o47_2, o47_3, n47, o47s_0, o47s_1, o47s_2, o47s_3, o3_0, o3_1, o3_2, o3_3, o3_4, o12_0, o12_1, o13_0, o13_1, o13_2, o13_3, o13_4, o13_5, o13_6, o14_0, o14_1, o14_2, o14_3, o14_4, o14_5, o11_0, o11_1, o11_2, o11_3, o5_0, o5_1, o5_2, o5_3, o5_4, o5_5, o6_0, o6_1, o6_2, n6, o6s_0, o6s_1, o6s_2, m1, b1, aGc_V, fk, s1, m3, ← hH4]
  have now4 : StG H4 (x + 7) := (now1.g.fr s3 (fun z hz e => by unfold StP at hz e; omega)).fr F4 (fun z hz e => by unfold StP at hz; omega)
  have tr4 : StR (FcW x) H4 (x + 16) sc S2 := (tr1.fr s3 (fun z hz e => by unfold StP at hz e; omega) (fun z _ e => hBk z e)).fr F4 (fun z hz e => by unfold StP at hz; omega) (fun z _ e => e ▸ FcW.obj)
  obtain ⟨H5, t1, t2, t3, t4, t5⟩ := st_as (d := d + 2) (fun z hz => FcW.now hz) now4 tr4 W2 (by omega)
  have m5 : jm H5 x = some (2, 18, o2 (.ref (x + 1)) (T 0 2) (T 0 16) (.ref sc) (.ref (x + 7)) (.ref (x + 16)) (.ref (x + 25)) (.ref (x + 30)) sen (.ref (x + 35)) (n1 + 1) ver (.ref vl) (.ref (x + 37)) (.ref tq) seed (.ref (x + 38)) (.ref (x + 39))) := (t3.2.2 _ (by omega) (fun e => by unfold StP at e; omega)).trans m4
  have F15 : Fr H1 H5 (fun z => z = x ∨ StP (x + 7) z ∨ StP (x + 60 + 9 * bp1 n1.toNat) z) := (s3.mono fun _ _ z => Or.inr (Or.inr z)).tr ((F4.mono fun _ _ z => Or.inl z).tr (t3.mono fun _ _ z => Or.inr (Or.inl z)))
  have FF : Fr H H5 (LvP x) := (F1.mono fun z _ hz => P1 z hz).tr (F15.mono fun z _ hz => by
    rcases hz with e | e | e
    · exact Or.inl e
    · exact Or.inr (Or.inl e)
    · exact Or.inr (Or.inr (Or.inr ⟨_, bk.1, e⟩)))
  refine ⟨H5, ?_, FF, by omega, by omega, by rw [show T' 0 44 = n1 + 1 by omega]; exact m5, t2, fb1, bp1, (F15.2.2 _ (by omega) (fun e => by unfold StP at e; omega)).trans b1, b2, b3, fun k hk => ?_, fun k hk => ?_⟩
  · rw [Y2027 H (rv2 (by rfl) m0), F2027_0]
    simp (disch := first | assumption | omega | decide | exact okF_i | exact okF_r | exact okF_n | exact okF_j | rfl) only [jc_ref, rI_int, rR_ref, rR_null, rJ_long, ckR_ref, ckR_null, ckr_ref, ckr_null, ckW_int, ckW_ref, ckW_null, cI_ok, cR_ok, cR_null, cV_ok, cJ_ok, qH_eq, qD_in, aG_ref, aS_ref, aL_ref, pF_ref, cK_ref, cK_null, zI_lit, zJ_lit, zI_add, zI_sub, zI_mul, zI_neg, zI_eq, zI_lt, zI_le, Int.reduceLT, Int.reduceLE, Int.reduceAdd, Int.reduceSub, Int.reduceMul, Int.reduceNeg, Int.reduceEq, Int.reduceNe, reduceIte, jf_in, pFc_in, aGi, aGb, aSi, aLc_in, cKc_in, nA_in, jm_s1, jm_s2, jm_p1, jm_p2, jm_b, jn_b, jn_s, jn_p, jset_jset, jset_jpush2, ckR_is, ckr_is, rR_is, ckW_is, cR_is, obi2, ckW_int, eq_self, if_true, ref_null, if_false, ne_eq, not_true_eq_false, not_false_eq_true, decide_true, decide_false, decide_not, Bool.true_and, Bool.false_and, Bool.and_true, Bool.and_false, Bool.true_or, Bool.false_or, Bool.or_true, Bool.or_false, Bool.not_true, Bool.not_false, Bool.false_eq_true, bI_t, bI_f, Int.natCast_one, Int.cast_ofNat_Int, Int.natCast_zero, o2_0, o2_1, o2_2, o2_3, o2_4, o2_5, o2_6, o2_7, o2_8, o2_9, o2_10, o2_11, o2_12, o2_13, o2_14, o2_15, o2_16, o2_17, n2, o2s_0, o2s_1, o2s_2, o2s_3, o2s_4, o2s_5, o2s_6, o2s_7, o2s_8, o2s_9, o2s_10, o2s_11, o2s_12, o2s_13, o2s_14, o2s_15, o2s_16, o2s_17, o23_0, o23_1, o23_2, n23, o23s_0, o23s_1, o23s_2, o4_0, o4_1, o4_2, o4_3, o4_4, o4_5, o4_6, n4, o4s_0, o4s_1, o4s_2, o4s_3, o4s_4, o4s_5, o4s_6, o24_0, o24_1, o24_2, o24_3, o26_0, o28_0, o22_0, o22_1, o22_2, o22_3, o22_4, o22_5, o47_0, o47_1, o47_2, o47_3, n47, o47s_0, o47s_1, o47s_2, o47s_3, o3_0, o3_1, o3_2, o3_3, o3_4, o12_0, o12_1, o13_0, o13_1, o13_2, o13_3, o13_4, o13_5, o13_6, o14_0, o14_1, o14_2, o14_3, o14_4, o14_5, o11_0, o11_1, o11_2, o11_3, o5_0, o5_1, o5_2, o5_3, o5_4, o5_5, o6_0, o6_1, o6_2, n6, o6s_0, o6s_1, o6s_2, snap, m4, t1]
  · by_cases c : k = bp1 n1.toNat
    · rw [c]
      exact ((s2.g.fr F4 (fun z hz e => by unfold StP at hz; omega)).fr t3 (fun z hz e => by unfold StP at hz e; omega))
    · have : StG H1 (x + 60 + 9 * k) := (a4 k hk).fr F1 (fun z hz e => by unfold StP at hz; omega)
      exact this.fr F15 (fun z hz e => by unfold StP at hz e; omega)
  · by_cases c : (k : Int) = n1
    · have ck : k = n1.toNat := by omega
      subst ck
      have s2' : StR (FcW x) H5 (x + 60 + 9 * bp1 n1.toNat) sc (T 2) := (s2.fr F4 (fun z hz e => by unfold StP at hz; omega) (fun z _ e => e ▸ FcW.obj)).fr t3 (fun z hz e => by unfold StP at hz e; omega) (fun z _ e => FcW.now e)
      have im : ∀ i, i < 1239 → imS T' ((n1.toNat : Nat) : Int) i = T 2 i := fun i hi => by
        rw [nn]
        by_cases c2 : i < 148
        · unfold imS; rw [if_pos c2]; exact e2 i c2
        · rw [show n1 = T' 0 44 - 1 from hn1]; exact en i (by omega) hi
      exact ⟨s2'.cg fun i i0 i1 => im i i1, W.cgs im⟩
    · have lt : (k : Int) + 1 < T' 0 44 := by omega
      obtain ⟨q1, q2⟩ := a5 (if T 0 44 = 8 then k + 1 else k) (by split <;> omega)
      have im : ∀ i, i < 1239 → imS T' k i = imS T (((if T 0 44 = 8 then k + 1 else k : Nat)) : Int) i := fun i hi => by
        by_cases c2 : i < 148
        · unfold imS; rw [if_pos c2, if_pos c2]; exact e2 i c2
        · rw [eo k lt i (by omega) hi]
          congr 1
          split <;> simp
      have ne : bp1 k ≠ bp1 n1.toNat := fun e => by
        have := b3 k n1.toNat (by omega) (by omega) e
        omega
      have lk := (b2 k (by omega)).1
      rw [← b4 k (by omega)] at q1
      have q1' := (q1.fr F1 (fun z hz e => by unfold StP at hz; omega) (fun z _ e => P1b z e)).fr F15 (fun z hz e => by unfold StP at hz e; omega) (fun z _ e => by
        rcases e with e | e | e
        · exact e ▸ FcW.obj
        · exact FcW.now e
        · exact hBk z e)
      exact ⟨q1'.cg fun i i0 i1 => im i i1, q2.cgs im⟩
end
