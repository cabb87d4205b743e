/-! the component's reader of schemas: all lines -/
-- jc_ref, rI_int, rR_ref, rR_null, rJ_long, ckR_ref, ckR_null, ckr_ref, ckr_null, ckW_int, ckW_ref, ckW_null, cI_ok, cR_ok, cR_null, cV_ok, cJ_ok, qH_eq, qD_in, aG_ref, aS_ref, aL_ref, pF_ref, cK_ref, cK_null, zI_lit, zJ_lit, zI_add, zI_sub, zI_mul, zI_neg, zI_eq, zI_lt, zI_le, Int.reduceLT, Int.reduceLE, Int.reduceAdd, Int.reduceSub, Int.reduceMul, Int.reduceNeg, Int.reduceEq, Int.reduceNe, reduceIte, jf_in, pFc_in, aGi, aGb, aSi, aLc_in, cKc_in, nA_in, jm_s1, jm_s2, jm_p1, jm_p2, jm_b, jn_b, jn_s, jn_p, jset_jset, jset_jpush2, ckR_is, ckr_is, rR_is, ckW_is, cR_is, obi2, ckW_int, eq_self, if_true, ref_null, if_false, ne_eq, not_true_eq_false, not_false_eq_true, decide_true, decide_false, decide_not, Bool.true_and, Bool.false_and, Bool.and_true, Bool.and_false, Bool.true_or, Bool.false_or, Bool.or_true, Bool.or_false, Bool.not_true, Bool.not_false, Bool.false_eq_true, bI_t, bI_f, Int.natCast_one, Int.cast_ofNat_Int, Int.natCast_zero, ju_self, ju_ne = jc_ref, rI_int, rR_ref, rR_null, rJ_long, ckR_ref, ckR_null, ckr_ref, ckr_null, ckW_int, ckW_ref, ckW_null, cI_ok, cR_ok, cR_null, cV_ok, cJ_ok, qH_eq, qD_in, aG_ref, aS_ref, aL_ref, pF_ref, cK_ref, cK_null, zI_lit, zJ_lit, zI_add, zI_sub, zI_mul, zI_neg, zI_eq, zI_lt, zI_le, Int.reduceLT, Int.reduceLE, Int.reduceAdd, Int.reduceSub, Int.reduceMul, Int.reduceNeg, Int.reduceEq, Int.reduceNe, reduceIte, jf_in, pFc_in, aGi, aGb, aSi, aLc_in, cKc_in, nA_in, jm_s1, jm_s2, jm_p1, jm_p2, jm_b, jn_b, jn_s, jn_p, jset_jset, jset_jpush2, ckR_is, ckr_is, rR_is, ckW_is, cR_is, obi2, ckW_int, eq_self, if_true, ref_null, if_false, ne_eq, not_true_eq_false, not_false_eq_true, decide_true, decide_false, decide_not, Bool.true_and, Bool.false_and, Bool.and_true, Bool.and_false, Bool.true_or, Bool.false_or, Bool.or_true, Bool.or_false, Bool.not_true, Bool.not_false, Bool.false_eq_true, bI_t, bI_f, Int.natCast_one, Int.cast_ofNat_Int, Int.natCast_zero, ju_self, ju_ne
section
variable {g : Int → Int} {z l q : Int} {hs nm : Int → Int} {a : (Int → Int) × (Int → Int) × Int}
theorem nxt_gt1 (h : kd g z l q = 1) : q < nxt g z l q := by
  obtain ⟨k1, k2, k3, -⟩ := kd1 h
  have b := sk_le_self (g := g) (z := z) (p := q)
  have sz : sk g z q < z := by
    by_cases c : z ≤ sk g z q
    · unfold cAt at k2
      rw [tpk_ge c] at k2
      omega
    · omega
  have e : sk g z q + 1 ≤ en g z (sk g z q) := by
    unfold en
    obtain ⟨m, hm⟩ : ∃ m, (z - sk g z q).toNat = m + 1 := ⟨(z - sk g z q).toNat - 1, by omega⟩
    rw [hm]
    show _ ≤ (if alnum (tpk g z (sk g z q)) = true then enF g z m (sk g z q + 1) else sk g z q)
    rw [if_pos (show alnum (tpk g z (sk g z q)) = true from k3)]
    have key : ∀ (n : Nat) (p : Int), p ≤ enF g z n p := by
      intro n
      induction n with
      | zero => intro p; exact Int.le_refl _
      | succ n ih =>
        intro p
        show p ≤ (if alnum (tpk g z p) = true then enF g z n (p + 1) else p)
        split
        · have := ih (p + 1); omega
        · exact Int.le_refl _
    exact key m _
  unfold nxt
  rw [if_neg (by rw [k1]; decide), if_neg (by omega), if_neg (by rw [k3]; decide)]
  omega
theorem rfK_ge {two o p : Int} {k : Int × Int} (h : refK g z l hs nm two o p = .ok k) : p ≤ k.2 := by
  unfold refK at h
  obtain ⟨fs, h1, h⟩ := eb_inv h
  obtain ⟨c, h2, h⟩ := eb_inv h
  have n1 := nxt_ge (g := g) (z := z) (l := l) p
  have n2 := nxt_ge (g := g) (z := z) (l := l) fs.2
  have f : p ≤ fs.2 := by
    split at h1
    · cases h1; exact Int.le_refl _
    · obtain ⟨x, -, h1⟩ := eb_inv h1
      cases h1; exact n1
  generalize (if two < 0 then keyOfH hs o c (-1) else if fs.1 = c then -1 else keyOfH hs o fs.1 c) = v at h
  split at h
  · cases h
  · cases h; show p ≤ nxt g z l fs.2; omega
theorem byP_ge {t c p : Int} {b : Bool × Int × Int} (h : byP g z l hs nm t c p = .ok b) : p ≤ b.2.2 := by
  have n1 := nxt_ge (g := g) (z := z) (l := l) p
  unfold byP at h
  split at h
  · obtain ⟨x, -, h⟩ := eb_inv h
    cases h; exact n1
  · obtain ⟨x, -, h⟩ := eb_inv h
    split at h
    · cases h
    · cases h; exact n1
theorem line_nx (W : HsW hs) (h : lineP g z l hs nm q = .ok a) : q < nxt g z l q ∧ nxt g z l q ≤ a.2.2 := by
  have n1 := nxt_ge (g := g) (z := z) (l := l) (nxt g z l q)
  have n2 := nxt_ge (g := g) (z := z) (l := l) (nxt g z l (nxt g z l q))
  have n3 := nxt_ge (g := g) (z := z) (l := l) (nxt g z l (nxt g z l (nxt g z l q)))
  unfold lineP at h
  split at h
  · rename_i hw
    refine ⟨nxt_gt1 (isW_k hw), ?_⟩
    unfold tableP at h
    split at h
    · cases h
    · split at h
      · cases h
      · split at h
        · cases h
        · have hb := W.1.2.1
          have W' := W_col (v := 0) W (by omega) (by omega) (by omega)
          obtain ⟨x1, x2⟩ := colLoop_W (t := hs 0) 6 _ _ _ W' (by rw [fset_ne (by omega)]) (by omega) h
          omega
  · split at h
    · rename_i hw
      refine ⟨nxt_gt1 (isW_k hw), ?_⟩
      split at h
      · cases h
      · unfold keyP at h
        obtain ⟨t, -, h⟩ := eb_inv h
        obtain ⟨c, h2, h⟩ := eb_inv h
        have := cols_ge h2
        cases h
        show nxt g z l q ≤ c.2.2
        omega
    · split at h
      · rename_i hw
        refine ⟨nxt_gt1 (isW_k hw), ?_⟩
        split at h
        · cases h
        · unfold refP at h
          obtain ⟨t, -, h⟩ := eb_inv h
          obtain ⟨c, h2, h⟩ := eb_inv h
          split at h
          · cases h
          · obtain ⟨o, -, h⟩ := eb_inv h
            obtain ⟨k, h3, h⟩ := eb_inv h
            obtain ⟨g1, -, h⟩ := eb_inv h
            obtain ⟨g2, -, h⟩ := eb_inv h
            have c1 := cols_ge h2
            have c2 := rfK_ge h3
            have m1 := nxt_ge (g := g) (z := z) (l := l) c.2.2
            have m2 := nxt_ge (g := g) (z := z) (l := l) (nxt g z l c.2.2)
            have m3 := nxt_ge (g := g) (z := z) (l := l) k.2
            have m4 := nxt_ge (g := g) (z := z) (l := l) (nxt g z l k.2)
            have m5 := may_ge (g := g) (z := z) (l := l) (nxt g z l (nxt g z l k.2)) wFULL
            have m6 := may_ge (g := g) (z := z) (l := l) (may g z l (nxt g z l (nxt g z l k.2)) wFULL) wLATE
            cases h
            show nxt g z l q ≤ may g z l (may g z l (nxt g z l (nxt g z l k.2)) wFULL) wLATE
            omega
      · split at h
        · rename_i hw
          refine ⟨nxt_gt1 (isW_k hw), ?_⟩
          unfold defP at h
          obtain ⟨t, -, h⟩ := eb_inv h
          obtain ⟨c, -, h⟩ := eb_inv h
          split at h
          · cases h
          · obtain ⟨v, -, h⟩ := eb_inv h
            cases h
            show nxt g z l q ≤ nxt g z l (nxt g z l (nxt g z l (nxt g z l q)))
            omega
        · split at h
          · rename_i hw
            refine ⟨nxt_gt1 (isW_k hw), ?_⟩
            unfold needP at h
            obtain ⟨t, -, h⟩ := eb_inv h
            obtain ⟨c, -, h⟩ := eb_inv h
            split at h
            · cases h
            · cases h
              show nxt g z l q ≤ nxt g z l (nxt g z l (nxt g z l q))
              omega
          · split at h
            · rename_i hw
              refine ⟨nxt_gt1 (isW_k hw), ?_⟩
              split at h
              · cases h
              · unfold chkP at h
                obtain ⟨t, -, h⟩ := eb_inv h
                obtain ⟨c, -, h⟩ := eb_inv h
                split at h
                · cases h
                · obtain ⟨b, h3, h⟩ := eb_inv h
                  have c1 := byP_ge h3
                  have m1 := may_ge (g := g) (z := z) (l := l) b.2.2 wLATE
                  cases h
                  show nxt g z l q ≤ may g z l b.2.2 wLATE
                  omega
            · cases h
end
