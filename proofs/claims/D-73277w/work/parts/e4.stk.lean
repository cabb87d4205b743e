/-! sort: the runs that wait */ -/
-- jc_ref, rI_int, rR_ref, rR_null, rJ_long, ckR_ref, ckR_null, ckr_ref, ckr_null, ckW_int, ckW_ref, ckW_null, cI_ok, cR_ok, cR_null, cV_ok, cJ_ok, qH_eq, qD_in, aG_ref, aS_ref, aL_ref, pF_ref, cK_ref, cK_null, zI_lit, zJ_lit, zI_add, zI_sub, zI_mul, zI_neg, zI_eq, zI_lt, zI_le, Int.reduceLT, Int.reduceLE, Int.reduceAdd, Int.reduceSub, Int.reduceMul, Int.reduceNeg, Int.reduceEq, Int.reduceNe, reduceIte, jf_in, pFc_in, aGi, aGb, aSi, aLc_in, cKc_in, nA_in, jm_s1, jm_s2, jm_p1, jm_p2, jm_b, jn_b, jn_s, jn_p, jset_jset, jset_jpush2, ckR_is, ckr_is, rR_is, ckW_is, cR_is, obi2, ckW_int, eq_self, if_true, ref_null, if_false, ne_eq, not_true_eq_false, not_false_eq_true, decide_true, decide_false, decide_not, Bool.true_and, Bool.false_and, Bool.and_true, Bool.and_false, Bool.true_or, Bool.false_or, Bool.or_true, Bool.or_false, Bool.not_true, Bool.not_false, Bool.false_eq_true, bI_t, bI_f, Int.natCast_one, Int.cast_ofNat_Int, Int.natCast_zero, Int.toNat_natCast, or0, or0', o72_0, o72_1, o72_2, o72_3, o72_4, o72_5, o72_6, o72_7, n72, o72s_0, o72s_1, o72s_2, o72s_3, o72s_4, o72s_5, o72s_6, o72s_7 = jc_ref, rI_int, rR_ref, rR_null, rJ_long, ckR_ref, ckR_null, ckr_ref, ckr_null, ckW_int, ckW_ref, ckW_null, cI_ok, cR_ok, cR_null, cV_ok, cJ_ok, qH_eq, qD_in, aG_ref, aS_ref, aL_ref, pF_ref, cK_ref, cK_null, zI_lit, zJ_lit, zI_add, zI_sub, zI_mul, zI_neg, zI_eq, zI_lt, zI_le, Int.reduceLT, Int.reduceLE, Int.reduceAdd, Int.reduceSub, Int.reduceMul, Int.reduceNeg, Int.reduceEq, Int.reduceNe, reduceIte, jf_in, pFc_in, aGi, aGb, aSi, aLc_in, cKc_in, nA_in, jm_s1, jm_s2, jm_p1, jm_p2, jm_b, jn_b, jn_s, jn_p, jset_jset, jset_jpush2, ckR_is, ckr_is, rR_is, ckW_is, cR_is, obi2, ckW_int, eq_self, if_true, ref_null, if_false, ne_eq, not_true_eq_false, not_false_eq_true, decide_true, decide_false, decide_not, Bool.true_and, Bool.false_and, Bool.and_true, Bool.and_false, Bool.true_or, Bool.false_or, Bool.or_true, Bool.or_false, Bool.not_true, Bool.not_false, Bool.false_eq_true, bI_t, bI_f, Int.natCast_one, Int.cast_ofNat_Int, Int.natCast_zero, Int.toNat_natCast, or0, or0', o72_0, o72_1, o72_2, o72_3, o72_4, o72_5, o72_6, o72_7, n72, o72s_0, o72s_1, o72s_2, o72s_3, o72s_4, o72s_5, o72s_6, o72s_7
/-- runs lie one behind another, each in order -/
def RunW (rk : Value → Int) (f : Nat → Value) (k : Nat) (bs ls : Nat → Nat) : Prop := (∀ i, i < k → 1 ≤ ls i ∧ SrtA rk f (bs i) (ls i)) ∧ (∀ i, i + 1 < k → bs (i + 1) = bs i + ls i) ∧ bs 0 = 0
def RSt (G : Nat → Option Cl) (H : AH) (ts e e2 rb rl SL k : Nat) (bs ls : Nat → Nat) : Prop := (∃ p q : Int → Int, jm H rb = some (1000, SL, aI p) ∧ jm H rl = some (1000, SL, aI q) ∧ ∀ i : Nat, i < k → p i = bs i ∧ q i = ls i) ∧ k ≤ SL ∧ SL ≤ 49 ∧ (G rb = none ∧ G rl = none) ∧ (rb ≠ rl ∧ rb ≠ e ∧ rb ≠ ts ∧ rb ≠ e2) ∧ (rl ≠ e ∧ rl ≠ ts ∧ rl ≠ e2) ∧ rb < H.1 ∧ rl < H.1
def dlB (i : Nat) (bs : Nat → Nat) : Nat → Nat := fun j => if j ≤ i then bs j else bs (j + 1)
def dlL (i : Nat) (ls : Nat → Nat) : Nat → Nat := fun j => if j < i then ls j else if j = i then ls i + ls (i + 1) else ls (j + 1)
section
variable {G : Nat → Option Cl} {rk : Value → Int} {d : Nat} {H H2 : AH} {e e2 e3 ts N N2 rb rl SL k i : Nat} {f g : Nat → Value} {mg U : Int} {bs ls : Nat → Nat}
theorem RunW.ord (h : RunW rk f k bs ls) : ∀ (n i : Nat), i + n + 1 ≤ k → bs i + (if n = 0 then 0 else ls i) ≤ bs (i + n)
  | 0, i, _ => by simp
  | n + 1, i, hk => by
    have h1 := h.2.1 i (by omega)
    have h2 := RunW.ord h n (i + 1) (by omega)
    rw [show i + (n + 1) = i + 1 + n by omega, if_neg (by omega)]
    by_cases hn : n = 0
    · rw [if_pos hn] at h2; omega
    · rw [if_neg hn] at h2; omega
theorem RunW.merge (h : RunW rk f k bs ls) (hi : i + 1 < k) (hs : SrtA rk g (bs i) (ls i + ls (i + 1))) (pm : PmR f g (bs i) (ls i + ls (i + 1))) : RunW rk g (k - 1) (dlB i bs) (dlL i ls) := by
  have o := pm.2
  obtain ⟨h1, h2, h3⟩ := id h
  refine ⟨fun j hj => ?_, fun j hj => ?_, ?_⟩
  · unfold dlB dlL
    by_cases c1 : j < i
    · rw [if_pos c1, if_pos (show j ≤ i by omega)]
      refine ⟨(h1 j (by omega)).1, fun x y a b c => ?_⟩
      have ob := h.ord (i - j) j (by omega)
      rw [if_neg (by omega), show j + (i - j) = i by omega] at ob
      rw [o x (by omega), o y (by omega)]
      exact (h1 j (by omega)).2 x y a b c
    · rw [if_neg c1]
      by_cases c2 : j = i
      · rw [if_pos c2, if_pos (show j ≤ i by omega), c2]
        exact ⟨by have := (h1 i (by omega)).1; omega, hs⟩
      · rw [if_neg c2, if_neg (show ¬ j ≤ i by omega)]
        refine ⟨(h1 (j + 1) (by omega)).1, fun x y a b c => ?_⟩
        have e1 := h2 i hi
        have e2 := h2 (i + 1) (by omega)
        have ob := h.ord (j + 1 - (i + 2)) (i + 2) (by omega)
        rw [show i + 2 + (j + 1 - (i + 2)) = j + 1 by omega] at ob
        have : bs (i + 2) ≤ bs (j + 1) := by split at ob <;> omega
        rw [show i + 1 + 1 = i + 2 by omega] at e2
        rw [o x (by omega), o y (by omega)]
        exact (h1 (j + 1) (by omega)).2 x y a b c
  · unfold dlB dlL
    by_cases c1 : j + 1 ≤ i
    · rw [if_pos c1, if_pos (by omega), if_pos (by omega)]
      exact h2 j (by omega)
    · rw [if_neg c1]
      by_cases c2 : j = i
      · subst c2
        rw [if_pos (Nat.le_refl _), if_neg (by omega), if_pos rfl]
        have e1 := h2 j hi
        have e2 := h2 (j + 1) (by omega)
        omega
      · rw [if_neg (by omega), if_neg (by omega), if_neg c2]
        exact h2 (j + 1) (by omega)
  · unfold dlB
    rw [if_pos (Nat.zero_le _)]; exact h3
theorem RSt.fr (h : RSt G H ts e e2 rb rl SL k bs ls) (hF : Fr H H2 (fun q => q = e ∨ q = ts ∨ q = e2)) (h3 : ∃ n t, jm H2 e3 = some (1040, n, t)) : RSt G H2 ts e e3 rb rl SL k bs ls := by
  obtain ⟨⟨p, q, a1, a2, a3⟩, b1, b2, b3, ⟨c1, c2, c3, c4⟩, ⟨c5, c6, c7⟩, d1, d2⟩ := h
  obtain ⟨n, t, h3⟩ := h3
  have k1 : jm H2 rb = some (1000, SL, aI p) := (hF.2.2 rb d1 (by
    rintro (z | z | z)
    · exact c2 z
    · exact c3 z
    · exact c4 z)).trans a1
  have k2 : jm H2 rl = some (1000, SL, aI q) := (hF.2.2 rl d2 (by
    rintro (z | z | z)
    · exact c5 z
    · exact c6 z
    · exact c7 z)).trans a2
  refine ⟨⟨p, q, k1, k2, a3⟩, b1, b2, b3, ⟨c1, c2, c3, fun z => ?_⟩, ⟨c5, c6, fun z => ?_⟩, Nat.lt_of_lt_of_le d1 hF.1, Nat.lt_of_lt_of_le d2 hF.1⟩
  · rw [z, h3] at k1; cases k1
  · rw [z, h3] at k2; cases k2
theorem TSt.fr {ss : Int} {vb vl : Value} (h : TSt G H ts e e2 N N2 f mg ss vb vl) {P : Nat → Prop} (hF : Fr H H2 P) (h1 : ¬ P e) (h2 : ¬ P ts) (h3 : ¬ P e2) (h4 : ∀ q, P q → G q = none) : TSt G H2 ts e e2 N N2 f mg ss vb vl := by
  obtain ⟨hG, g, x, hN, hq, me, ⟨t0, mt⟩, ms, l1, l2, l3⟩ := h
  exact ⟨hG.fr hF h4, g, x, hN, hq, (hF.2.2 _ l1 h1).trans me, ⟨t0, (hF.2.2 _ l3 h3).trans mt⟩, (hF.2.2 _ l2 h2).trans ms, Nat.lt_of_lt_of_le l1 hF.1, Nat.lt_of_lt_of_le l2 hF.1, Nat.lt_of_lt_of_le l3 hF.1⟩
theorem c_mat (hT : TSt G H ts e e2 N N2 f mg (k : Int) (.ref rb) (.ref rl)) (hR : RSt G H ts e e2 rb rl SL k bs ls) (hW : RunW rk f k bs ls) (hi : i + 2 = k ∨ i + 3 = k) (hE : bs (k - 1) + ls (k - 1) ≤ N) (hA : OkA G rk f 0 N) (m1 : 1 ≤ mg) (m2 : mg + 3 * N ≤ U) (m3 : 2 + 3 * N ≤ U) (hU : U < 1000000000) :
    ∃ (H2 : AH) (f' : Nat → Value) (mg' : Int) (e3 N3 : Nat), M2 (d + 7) 72005 [.ref ts, .int (zI i)] H = some (.inl none, H2) ∧ TSt G H2 ts e e3 N N3 f' mg' ((k - 1 : Nat) : Int) (.ref rb) (.ref rl) ∧ RSt G H2 ts e e3 rb rl SL (k - 1) (dlB i bs) (dlL i ls) ∧ RunW rk f' (k - 1) (dlB i bs) (dlL i ls) ∧ (1 ≤ mg' ∧ mg' ≤ U) ∧ PmR f f' (bs i) (ls i + ls (i + 1)) ∧ Fr H H2 (fun q => q = e ∨ q = ts ∨ q = e2 ∨ q = rb ∨ q = rl) ∧ GroT H H2 N N2 N3 e2 e3 := by
  have hW' := hW
  obtain ⟨w1, w2, w3⟩ := hW
  obtain ⟨⟨p, q, a1, a2, a3⟩, b1, b2, ⟨b3, b3'⟩, ⟨c1, c2, c3, c4⟩, ⟨c5, c6, c7⟩, d1, d2⟩ := hR
  have c1' := Ne.symm c1
  have c3' := Ne.symm c3
  have c6' := Ne.symm c6
  obtain ⟨-, -, -, hN, -, -, -, ms, -⟩ := id hT
  have pi := (a3 i (by omega)).1
  have qi := (a3 i (by omega)).2
  have pi1 : p ((i : Int) + 1) = bs (i + 1) := (a3 (i + 1) (by omega)).1
  have qi1 : q ((i : Int) + 1) = ls (i + 1) := (a3 (i + 1) (by omega)).2
  have hl1 := (w1 i (by omega)).1
  have hl2 := (w1 (i + 1) (by omega)).1
  have hb := w2 i (by omega)
  have hEi : bs (i + 1) + ls (i + 1) ≤ N := by
    rcases hi with hi | hi
    · rw [show k - 1 = i + 1 by omega] at hE; exact hE
    · rw [show k - 1 = i + 2 by omega] at hE
      have := w2 (i + 1) (by omega)
      rw [show i + 1 + 1 = i + 2 by omega] at this
      omega
  have core : ∀ (K : AH) (p2 q2 : Int → Int), jm K rb = some (1000, SL, aI p2) → jm K rl = some (1000, SL, aI q2) → (∀ j : Nat, j < k - 1 → p2 j = dlB i bs j ∧ q2 j = dlL i ls j) → Fr H K (fun x => x = rb ∨ x = rl) → K.1 = H.1 → K.2.1 = H.2.1 →
      ∃ (H2 : AH) (f' : Nat → Value) (mg' : Int) (e3 N3 : Nat), G2 (d + 6) 72005 205 [.ref ts, .int (zI i), .int (zI (bs i)), .int (zI (ls i)), .int (zI (bs (i + 1))), .int (zI (ls (i + 1))), jno] [] K = some (.inl none, H2) ∧ TSt G H2 ts e e3 N N3 f' mg' ((k - 1 : Nat) : Int) (.ref rb) (.ref rl) ∧ RSt G H2 ts e e3 rb rl SL (k - 1) (dlB i bs) (dlL i ls) ∧ RunW rk f' (k - 1) (dlB i bs) (dlL i ls) ∧ (1 ≤ mg' ∧ mg' ≤ U) ∧ PmR f f' (bs i) (ls i + ls (i + 1)) ∧ Fr H H2 (fun q => q = e ∨ q = ts ∨ q = e2 ∨ q = rb ∨ q = rl) ∧ GroT H H2 N N2 N3 e2 e3 := by
    intro K p2 q2 r1 r2 r3 fK k1 k2
    have hTK := hT.fr fK (by rintro (z | z); exact c2 z.symm; exact c5 z.symm) (by rintro (z | z); exact c3 z.symm; exact c6 z.symm) (by rintro (z | z); exact c4 z.symm; exact c7 z.symm) (by rintro x (rfl | rfl); exact b3; exact b3')
    have hRK : RSt G K ts e e2 rb rl SL (k - 1) (dlB i bs) (dlL i ls) := ⟨⟨p2, q2, r1, r2, r3⟩, by omega, b2, ⟨b3, b3'⟩, ⟨c1, c2, c3, c4⟩, ⟨c5, c6, c7⟩, by rw [k1]; exact d1, by rw [k1]; exact d2⟩
    obtain ⟨H2, f', mg', e3, N3, y1, y2, y3, y4, y5, y6, y7⟩ := c_m205 (d := d) (rk := rk) (U := U) hTK ⟨by omega, by omega⟩ (B := bs i) (n1 := ls i) (c2 := bs (i + 1)) (n2 := ls (i + 1)) hb.symm hEi hl1 hl2 (fun x a b => hA x (Nat.zero_le _) (by omega)) (w1 i (by omega)).2 (w1 (i + 1) (by omega)).2 m1 (by omega) (by omega) hU (i1 := i)
    rw [show (k : Int) - 1 = ((k - 1 : Nat) : Int) by omega] at y2
    obtain ⟨-, -, -, -, -, -, ⟨t2, mt2⟩, -⟩ := id y2
    refine ⟨H2, f', mg', e3, N3, y1, y2, hRK.fr y6 ⟨_, _, mt2⟩, hW'.merge (by omega) y4 y5, y3, y5, (fK.mono (fun x _ z => z.elim (fun z => Or.inr (Or.inr (Or.inr (Or.inl z)))) (fun z => Or.inr (Or.inr (Or.inr (Or.inr z)))))).tr (y6.mono (fun x _ z => z.elim Or.inl (fun z => z.elim (fun z => Or.inr (Or.inl z)) (fun z => Or.inr (Or.inr (Or.inl z)))))), ?_⟩
    unfold GroT at y7 ⊢
    rw [k1, k2] at y7
    exact y7
  have sm : (ls i : Int) + ls (i + 1) = ((ls i + ls (i + 1) : Nat) : Int) := by omega
  rw [Y72005 H (jrecv_in ms rfl), F72005_0]
  simp (disch := first | assumption | omega | decide | exact okF_i | exact okF_r | exact okF_n | exact okF_j | rfl) only [jc_ref, rI_int, rR_ref, rR_null, rJ_long, ckR_ref, ckR_null, ckr_ref, ckr_null, ckW_int, ckW_ref, ckW_null, cI_ok, cR_ok, cR_null, cV_ok, cJ_ok, qH_eq, qD_in, aG_ref, aS_ref, aL_ref, pF_ref, cK_ref, cK_null, zI_lit, zJ_lit, zI_add, zI_sub, zI_mul, zI_neg, zI_eq, zI_lt, zI_le, Int.reduceLT, Int.reduceLE, Int.reduceAdd, Int.reduceSub, Int.reduceMul, Int.reduceNeg, Int.reduceEq, Int.reduceNe, reduceIte, jf_in, pFc_in, aGi, aGb, aSi, aLc_in, cKc_in, nA_in, jm_s1, jm_s2, jm_p1, jm_p2, jm_b, jn_b, jn_s, jn_p, jset_jset, jset_jpush2, ckR_is, ckr_is, rR_is, ckW_is, cR_is, obi2, ckW_int, eq_self, if_true, ref_null, if_false, ne_eq, not_true_eq_false, not_false_eq_true, decide_true, decide_false, decide_not, Bool.true_and, Bool.false_and, Bool.and_true, Bool.and_false, Bool.true_or, Bool.false_or, Bool.or_true, Bool.or_false, Bool.not_true, Bool.not_false, Bool.false_eq_true, bI_t, bI_f, Int.natCast_one, Int.cast_ofNat_Int, Int.natCast_zero, Int.toNat_natCast, or0, or0', o72_0, o72_1, o72_2, o72_3, o72_4, o72_5, o72_6, o72_7, n72, o72s_0, o72s_1, o72s_2, o72s_3, o72s_4, o72s_5, o72s_6, o72s_7]
  rw [F72005_40]
  simp (disch := first | assumption | omega | decide | exact okF_i | exact okF_r | exact okF_n | exact okF_j | rfl) only [jc_ref, rI_int, rR_ref, rR_null, rJ_long, ckR_ref, ckR_null, ckr_ref, ckr_null, ckW_int, ckW_ref, ckW_null, cI_ok, cR_ok, cR_null, cV_ok, cJ_ok, qH_eq, qD_in, aG_ref, aS_ref, aL_ref, pF_ref, cK_ref, cK_null, zI_lit, zJ_lit, zI_add, zI_sub, zI_mul, zI_neg, zI_eq, zI_lt, zI_le, Int.reduceLT, Int.reduceLE, Int.reduceAdd, Int.reduceSub, Int.reduceMul, Int.reduceNeg, Int.reduceEq, Int.reduceNe, reduceIte, jf_in, pFc_in, aGi, aGb, aSi, aLc_in, cKc_in, nA_in, jm_s1, jm_s2, jm_p1, jm_p2, jm_b, jn_b, jn_s, jn_p, jset_jset, jset_jpush2, ckR_is, ckr_is, rR_is, ckW_is, cR_is, obi2, ckW_int, eq_self, if_true, ref_null, if_false, ne_eq, not_true_eq_false, not_false_eq_true, decide_true, decide_false, decide_not, Bool.true_and, Bool.false_and, Bool.and_true, Bool.and_false, Bool.true_or, Bool.false_or, Bool.or_true, Bool.or_false, Bool.not_true, Bool.not_false, Bool.false_eq_true, bI_t, bI_f, Int.natCast_one, Int.cast_ofNat_Int, Int.natCast_zero, Int.toNat_natCast, or0, or0', o72_0, o72_1, o72_2, o72_3, o72_4, o72_5, o72_6, o72_7, n72, o72s_0, o72s_1, o72s_2, o72s_3, o72s_4, o72s_5, o72s_6, o72s_7]
  rw [F72005_74]
  simp (disch := first | assumption | omega | decide | exact okF_i | exact okF_r | exact okF_n | exact okF_j | rfl) only [jc_ref, rI_int, rR_ref, rR_null, rJ_long, ckR_ref, ckR_null, ckr_ref, ckr_null, ckW_int, ckW_ref, ckW_null, cI_ok, cR_ok, cR_null, cV_ok, cJ_ok, qH_eq, qD_in, aG_ref, aS_ref, aL_ref, pF_ref, cK_ref, cK_null, zI_lit, zJ_lit, zI_add, zI_sub, zI_mul, zI_neg, zI_eq, zI_lt, zI_le, Int.reduceLT, Int.reduceLE, Int.reduceAdd, Int.reduceSub, Int.reduceMul, Int.reduceNeg, Int.reduceEq, Int.reduceNe, reduceIte, jf_in, pFc_in, aGi, aGb, aSi, aLc_in, cKc_in, nA_in, jm_s1, jm_s2, jm_p1, jm_p2, jm_b, jn_b, jn_s, jn_p, jset_jset, jset_jpush2, ckR_is, ckr_is, rR_is, ckW_is, cR_is, obi2, ckW_int, eq_self, if_true, ref_null, if_false, ne_eq, not_true_eq_false, not_false_eq_true, decide_true, decide_false, decide_not, Bool.true_and, Bool.false_and, Bool.and_true, Bool.and_false, Bool.true_or, Bool.false_or, Bool.or_true, Bool.or_false, Bool.not_true, Bool.not_false, Bool.false_eq_true, bI_t, bI_f, Int.natCast_one, Int.cast_ofNat_Int, Int.natCast_zero, Int.toNat_natCast, or0, or0', o72_0, o72_1, o72_2, o72_3, o72_4, o72_5, o72_6, o72_7, n72, o72s_0, o72s_1, o72s_2, o72s_3, o72s_4, o72s_5, o72s_6, o72s_7, ms, a1, a2, pi, qi, pi1, qi1]
  rw [F72005_153]
  simp (disch := first | assumption | omega | decide | exact okF_i | exact okF_r | exact okF_n | exact okF_j | rfl) only [jc_ref, rI_int, rR_ref, rR_null, rJ_long, ckR_ref, ckR_null, ckr_ref, ckr_null, ckW_int, ckW_ref, ckW_null, cI_ok, cR_ok, cR_null, cV_ok, cJ_ok, qH_eq, qD_in, aG_ref, aS_ref, aL_ref, pF_ref, cK_ref, cK_null, zI_lit, zJ_lit, zI_add, zI_sub, zI_mul, zI_neg, zI_eq, zI_lt, zI_le, Int.reduceLT, Int.reduceLE, Int.reduceAdd, Int.reduceSub, Int.reduceMul, Int.reduceNeg, Int.reduceEq, Int.reduceNe, reduceIte, jf_in, pFc_in, aGi, aGb, aSi, aLc_in, cKc_in, nA_in, jm_s1, jm_s2, jm_p1, jm_p2, jm_b, jn_b, jn_s, jn_p, jset_jset, jset_jpush2, ckR_is, ckr_is, rR_is, ckW_is, cR_is, obi2, ckW_int, eq_self, if_true, ref_null, if_false, ne_eq, not_true_eq_false, not_false_eq_true, decide_true, decide_false, decide_not, Bool.true_and, Bool.false_and, Bool.and_true, Bool.and_false, Bool.true_or, Bool.false_or, Bool.or_true, Bool.or_false, Bool.not_true, Bool.not_false, Bool.false_eq_true, bI_t, bI_f, Int.natCast_one, Int.cast_ofNat_Int, Int.natCast_zero, Int.toNat_natCast, or0, or0', o72_0, o72_1, o72_2, o72_3, o72_4, o72_5, o72_6, o72_7, n72, o72s_0, o72s_1, o72s_2, o72s_3, o72s_4, o72s_5, o72s_6, o72s_7, ms, a1, a2, aS_ref]
  by_cases h2 : i + 2 = k
  · rw [if_neg (by omega)]
    refine core _ p (fset q i (ls i + ls (i + 1))) ((jm_s2 c1).trans a1) jm_s1 (fun j hj => ?_) (Fr.set (Or.inr rfl)) rfl rfl
    unfold dlB dlL
    by_cases e1 : j < i
    · rw [if_pos (show j ≤ i by omega), if_pos e1, fset_ne (by omega)]; exact a3 j (by omega)
    · have : j = i := by omega
      subst this
      rw [if_pos (Nat.le_refl _), if_neg (by omega), if_pos rfl, fset_eq]
      exact ⟨pi, by omega⟩
  · have h3 : i + 3 = k := by omega
    rw [if_pos (by omega)]
    have pi2 : p ((i : Int) + 2) = bs (i + 2) := (a3 (i + 2) (by omega)).1
    have qi2 : q ((i : Int) + 2) = ls (i + 2) := (a3 (i + 2) (by omega)).2
    have fq : fset q i (ls i + ls (i + 1)) ((i : Int) + 2) = ls (i + 2) := by rw [fset_ne (by omega)]; exact qi2
    simp (disch := first | assumption | omega | decide | exact okF_i | exact okF_r | exact okF_n | exact okF_j | rfl) only [jc_ref, rI_int, rR_ref, rR_null, rJ_long, ckR_ref, ckR_null, ckr_ref, ckr_null, ckW_int, ckW_ref, ckW_null, cI_ok, cR_ok, cR_null, cV_ok, cJ_ok, qH_eq, qD_in, aG_ref, aS_ref, aL_ref, pF_ref, cK_ref, cK_null, zI_lit, zJ_lit, zI_add, zI_sub, zI_mul, zI_neg, zI_eq, zI_lt, zI_le, Int.reduceLT, Int.reduceLE, Int.reduceAdd, Int.reduceSub, Int.reduceMul, Int.reduceNeg, Int.reduceEq, Int.reduceNe, reduceIte, jf_in, pFc_in, aGi, aGb, aSi, aLc_in, cKc_in, nA_in, jm_s1, jm_s2, jm_p1, jm_p2, jm_b, jn_b, jn_s, jn_p, jset_jset, jset_jpush2, ckR_is, ckr_is, rR_is, ckW_is, cR_is, obi2, ckW_int, eq_self, if_true, ref_null, if_false, ne_eq, not_true_eq_false, not_false_eq_true, decide_true, decide_false, decide_not, Bool.true_and, Bool.false_and, Bool.and_true, Bool.and_false, Bool.true_or, Bool.false_or, Bool.or_true, Bool.or_false, Bool.not_true, Bool.not_false, Bool.false_eq_true, bI_t, bI_f, Int.natCast_one, Int.cast_ofNat_Int, Int.natCast_zero, Int.toNat_natCast, or0, or0', o72_0, o72_1, o72_2, o72_3, o72_4, o72_5, o72_6, o72_7, n72, o72s_0, o72s_1, o72s_2, o72s_3, o72s_4, o72s_5, o72s_6, o72s_7, ms, a1, a2, pi2, fq]
    refine core _ (fset p ((i : Int) + 1) (bs (i + 2))) (fset (fset q i (ls i + ls (i + 1))) ((i : Int) + 1) (ls (i + 2))) ((jm_s2 c1).trans jm_s1) jm_s1 (fun j hj => ?_) ((Fr.set (Or.inr rfl)).tr ((Fr.set (Or.inl rfl)).tr (Fr.set (Or.inr rfl)))) rfl rfl
    unfold dlB dlL
    by_cases e1 : j < i
    · rw [if_pos (show j ≤ i by omega), if_pos e1, fset_ne (by omega), fset_ne (by omega), fset_ne (by omega)]; exact a3 j (by omega)
    · by_cases e2 : j = i
      · subst e2
        rw [if_pos (Nat.le_refl _), if_neg (by omega), if_pos rfl, fset_ne (by omega), fset_ne (by omega), fset_eq]
        exact ⟨pi, by omega⟩
      · have : j = i + 1 := by omega
        subst this
        rw [if_neg (by omega), if_neg (by omega), if_neg (by omega), show ((i + 1 : Nat) : Int) = (i : Int) + 1 by omega, fset_eq, fset_eq]
        exact ⟨rfl, rfl⟩
end
