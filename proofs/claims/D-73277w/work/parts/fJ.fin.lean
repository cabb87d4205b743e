/-! a statement that finds rows is laid out -/
-- jc_ref, rI_int, rR_ref, rR_null, rJ_long, ckR_ref, ckR_null, ckr_ref, ckr_null, ckW_int, ckW_ref, ckW_null, cI_ok, cR_ok, cR_null, cV_ok, cJ_ok, qH_eq, qD_in, aG_ref, aS_ref, aL_ref, pF_ref, cK_ref, cK_null, zI_lit, zJ_lit, zI_add, zI_sub, zI_mul, zI_neg, zI_eq, zI_lt, zI_le, Int.reduceLT, Int.reduceLE, Int.reduceAdd, Int.reduceSub, Int.reduceMul, Int.reduceNeg, Int.reduceEq, Int.reduceNe, reduceIte, jf_in, pFc_in, aGi, aGb, aSi, aLc_in, cKc_in, nA_in, jm_s1, jm_s2, jm_p1, jm_p2, jm_b, jn_b, jn_s, jn_p, jset_jset, jset_jpush2, ckR_is, ckr_is, rR_is, ckW_is, cR_is, obi2, ckW_int, eq_self, if_true, ref_null, if_false, ne_eq, not_true_eq_false, not_false_eq_true, decide_true, decide_false, decide_not, Bool.true_and, Bool.false_and, Bool.and_true, Bool.and_false, Bool.true_or, Bool.false_or, Bool.or_true, Bool.or_false, Bool.not_true, Bool.not_false, Bool.false_eq_true, bI_t, bI_f, Int.natCast_one, Int.cast_ofNat_Int, Int.natCast_zero, o23_0, o23_1, o23_2, n23, o23s_0, o23s_1, o23s_2, o12_0, o12_1, o13_0, o13_1, o13_2, o13_3, o13_4, o13_5, o13_6, o14_0, o14_1, o14_2, o14_3, o14_4, o14_5, o3_0, o3_1, o3_2, o3_3, o3_4, o11_0, o11_1, o11_2, o11_3, o4_0, o4_1, o4_2, o4_3, o4_4, o4_5, o4_6, o5_0, o5_1, o5_2, o5_3, o5_4, o5_5, n5, o5s_0, o5s_1, o5s_2, o5s_3, o5s_4, o5s_5, o17_0, o17_1, o19_0, o19_1, o21_0, o21_1, o21_2, o21_3, o22_0, o22_1, o22_2, o22_3, o22_4, o22_5, n22, o22s_0, o22s_1, o22s_2, o22s_3, o22s_4, o22s_5 = jc_ref, rI_int, rR_ref, rR_null, rJ_long, ckR_ref, ckR_null, ckr_ref, ckr_null, ckW_int, ckW_ref, ckW_null, cI_ok, cR_ok, cR_null, cV_ok, cJ_ok, qH_eq, qD_in, aG_ref, aS_ref, aL_ref, pF_ref, cK_ref, cK_null, zI_lit, zJ_lit, zI_add, zI_sub, zI_mul, zI_neg, zI_eq, zI_lt, zI_le, Int.reduceLT, Int.reduceLE, Int.reduceAdd, Int.reduceSub, Int.reduceMul, Int.reduceNeg, Int.reduceEq, Int.reduceNe, reduceIte, jf_in, pFc_in, aGi, aGb, aSi, aLc_in, cKc_in, nA_in, jm_s1, jm_s2, jm_p1, jm_p2, jm_b, jn_b, jn_s, jn_p, jset_jset, jset_jpush2, ckR_is, ckr_is, rR_is, ckW_is, cR_is, obi2, ckW_int, eq_self, if_true, ref_null, if_false, ne_eq, not_true_eq_false, not_false_eq_true, decide_true, decide_false, decide_not, Bool.true_and, Bool.false_and, Bool.and_true, Bool.and_false, Bool.true_or, Bool.false_or, Bool.or_true, Bool.or_false, Bool.not_true, Bool.not_false, Bool.false_eq_true, bI_t, bI_f, Int.natCast_one, Int.cast_ofNat_Int, Int.natCast_zero, o23_0, o23_1, o23_2, n23, o23s_0, o23s_1, o23s_2, o12_0, o12_1, o13_0, o13_1, o13_2, o13_3, o13_4, o13_5, o13_6, o14_0, o14_1, o14_2, o14_3, o14_4, o14_5, o3_0, o3_1, o3_2, o3_3, o3_4, o11_0, o11_1, o11_2, o11_3, o4_0, o4_1, o4_2, o4_3, o4_4, o4_5, o4_6, o5_0, o5_1, o5_2, o5_3, o5_4, o5_5, n5, o5s_0, o5s_1, o5s_2, o5s_3, o5s_4, o5s_5, o17_0, o17_1, o19_0, o19_1, o21_0, o21_1, o21_2, o21_3, o22_0, o22_1, o22_2, o22_3, o22_4, o22_5, n22, o22s_0, o22s_1, o22s_2, o22s_3, o22s_4, o22s_5
/-- no column that a row lacks is wanted -/
def ColW (S : Int → Int) (w : WS) : Prop := ∀ r c, 0 ≤ r → r < 99 → S (4 + S (249 + r)) ≤ c → c < 4 → w.1 (4 * r + c) = -9
section
variable {S L : Int → Int} {g : Nat → Bool} {w : WS} {r f to i v : Int}
theorem ColW.put (W : StW S) (h : ColW S w) (r0 : 0 ≤ r) (r1 : r < 99) {c : Int} (c0 : 0 ≤ c) (c1 : c < S (4 + S (249 + r))) : ColW S (want1 w (4 * r + c) v) := fun k j k0 k1 j0 j1 => by
  have TA := W.ta r0 r1
  have CO := W.co TA.1 TA.2
  have TB := W.ta k0 k1
  have CB := W.co TB.1 TB.2
  unfold want1
  split
  · show fset w.1 (4 * r + c) v (4 * k + j) = -9
    rw [fset_ne, h k j k0 k1 j0 j1]
    intro e
    have : k = r := by omega
    subst this
    omega
  · exact h k j k0 k1 j0 j1
theorem ColW.com (W : StW S) (h : ColW S w) (r0 : 0 ≤ r) (r1 : r < 99) (f0 : 0 ≤ f) (f1 : f < S 2) : ColW S (com1 S g r f (parS S r f) w) := by
  obtain ⟨K1, K2, -⟩ := W.key2 f0 f1
  obtain ⟨-, A2, A3, -⟩ := W.1.2.2.2.1 f f0 f1
  by_cases ht : S (249 + r) = S (58 + f)
  · have e1 : ∀ {w v}, ColW S w → ColW S (want1 w (4 * r + S (64 + f)) v) := fun h => h.put W r0 r1 A2.1 (by rw [ht]; exact A2.2)
    have e2 : ∀ {w v}, ¬ S (70 + f) < 0 → ColW S w → ColW S (want1 w (4 * r + S (70 + f)) v) := fun n h => h.put W r0 r1 (by omega) (by rw [ht]; exact A3.2.1)
    have wa : ∀ {b w}, ColW S w → ColW S (wantsA S r f b w) := fun h => by
      rw [wantsA_eq (by omega)]
      split
      · exact e1 h
      · rename_i n; exact e2 n (e1 h)
    unfold com1
    split
    · exact h
    · split
      · split
        · exact h
        · exact wa h
      · split
        · exact h
        · split
          · unfold chgW
            simp only
            have s1 : ColW S (if isOth S w (parS S r f) (S (46 + S (82 + f))) = true then want1 w (4 * r + S (64 + f)) (w.1 (4 * (parS S r f) + S (46 + S (82 + f)))) else w) := by
              split
              · exact e1 h
              · exact h
            generalize (if isOth S w (parS S r f) (S (46 + S (82 + f))) = true then want1 w (4 * r + S (64 + f)) (w.1 (4 * (parS S r f) + S (46 + S (82 + f)))) else w) = ww at *
            split
            · rename_i e
              rw [Bool.and_eq_true] at e
              exact e2 (fun z => by have : ¬ S (52 + S (82 + f)) < 0 := by simpa using e.1
                                    exact this (K2.mpr z)) s1
            · exact s1
          · split
            · exact h
            · exact wa h
  · have : parS S r f = -1 := by unfold parS; rw [if_neg ht]
    rw [this]
    exact h
theorem ColW_comL (W : StW S) : ∀ (s : List Int) (w : WS), (∀ x ∈ s, 0 ≤ x ∧ x < 99) → ColW S w → ColW S (comL S g s w)
  | [], _, _, h => h
  | x :: s, w, hs, h => by
    have n2 := W.n0.2.2.1.1
    have hx := hs x List.mem_cons_self
    have cf : ∀ (j : Nat) (f : Int) (w : WS), 0 ≤ f → f + j = S 2 → ColW S w → ColW S (comF S g x j f w) := by
      intro j
      induction j with
      | zero => intro f w _ _ h; exact h
      | succ j ih => intro f w f0 hf h; exact ih (f + 1) _ (by omega) (by omega) (h.com W hx.1 hx.2 f0 (by omega))
    refine ColW_comL W s _ (fun y hy => hs y (List.mem_cons_of_mem _ hy)) ?_
    split
    · exact h
    · exact cf _ 0 w (Int.le_refl _) (by omega) h
theorem ColW_itr (W : StW S) : ∀ (n : Nat) (w : WS), ColW S w → ColW S (itr (comL S g (alv S 150 99 0)) n w)
  | 0, _, h => h
  | n + 1, w, h => by
    rw [itr_s]
    split
    · exact h
    · exact ColW_itr W n _ (ColW_comL W _ _ (fun x hx => by have := (alv_mem 99 0 x).mp hx; omega) h)
theorem ColW_setW (W : StW S) (hS : SeW S L to) (r0 : 0 ≤ r) (r1 : r < 99) (ht : S (249 + r) = L (to + 1)) : ∀ (j : Nat) (k : Int) (w : WS), 0 ≤ k → k + j = L (to + 2) → ColW S w → ColW S (setW L to r j k w)
  | 0, _, _, _, _, h => h
  | j + 1, k, w, k0, hk, h => by
    have := hS.2 k k0 (by omega)
    exact ColW_setW W hS r0 r1 ht j (k + 1) _ (by omega) (by omega) (h.put W r0 r1 this.1.1 (by rw [ht]; exact this.1.2))
theorem ColW_setL (W : StW S) (hS : SeW S L to) : ∀ (s : List Int) (w : WS), (∀ x ∈ s, 0 ≤ x ∧ x < 99 ∧ S (249 + x) = L (to + 1)) → ColW S w → ColW S (setL L to s w)
  | [], _, _, h => h
  | x :: s, w, hs, h => by
    have hx := hs x List.mem_cons_self
    exact ColW_setL W hS s _ (fun y hy => hs y (List.mem_cons_of_mem _ hy)) (ColW_setW W hS hx.1 hx.2.1 hx.2.2 _ 0 w (Int.le_refl _) (by have := hS.1; omega) h)
theorem setL_W (hS : SeW S L to) : ∀ (s : List Int) (w : WS), WsW w → WsW (setL L to s w)
  | [], _, h => h
  | x :: s, w, h => setL_W hS s _ (setW_W hS _ 0 w h (Int.le_refl _) (by have := hS.1; omega))
end
