/-! what a statement comes to: the twin's end and the rows behind it -/
-- jc_ref, rI_int, rR_ref, rR_null, rJ_long, ckR_ref, ckR_null, ckr_ref, ckr_null, ckW_int, ckW_ref, ckW_null, cI_ok, cR_ok, cR_null, cV_ok, cJ_ok, qH_eq, qD_in, aG_ref, aS_ref, aL_ref, pF_ref, cK_ref, cK_null, zI_lit, zJ_lit, zI_add, zI_sub, zI_mul, zI_neg, zI_eq, zI_lt, zI_le, Int.reduceLT, Int.reduceLE, Int.reduceAdd, Int.reduceSub, Int.reduceMul, Int.reduceNeg, Int.reduceEq, Int.reduceNe, reduceIte, jf_in, pFc_in, aGi, aGb, aSi, aLc_in, cKc_in, nA_in, jm_s1, jm_s2, jm_p1, jm_p2, jm_b, jn_b, jn_s, jn_p, jset_jset, jset_jpush2, ckR_is, ckr_is, rR_is, ckW_is, cR_is, obi2, ckW_int, eq_self, if_true, ref_null, if_false, ne_eq, not_true_eq_false, not_false_eq_true, decide_true, decide_false, decide_not, Bool.true_and, Bool.false_and, Bool.and_true, Bool.and_false, Bool.true_or, Bool.false_or, Bool.or_true, Bool.or_false, Bool.not_true, Bool.not_false, Bool.false_eq_true, bI_t, bI_f, Int.natCast_one, Int.cast_ofNat_Int, Int.natCast_zero, o23_0, o23_1, o23_2, n23, o23s_0, o23s_1, o23s_2, o12_0, o12_1, o13_0, o13_1, o13_2, o13_3, o13_4, o13_5, o13_6, o14_0, o14_1, o14_2, o14_3, o14_4, o14_5, o3_0, o3_1, o3_2, o3_3, o3_4, o11_0, o11_1, o11_2, o11_3, o4_0, o4_1, o4_2, o4_3, o4_4, o4_5, o4_6, n4, o4s_0, o4s_1, o4s_2, o4s_3, o4s_4, o4s_5, o4s_6, o5_0, o5_1, o5_2, o5_3, o5_4, o5_5, n5, o5s_0, o5s_1, o5s_2, o5s_3, o5s_4, o5s_5, o17_0, o17_1, o22_0, o22_1, o22_2, o22_3, o22_4, o22_5, n22, o22s_0, o22s_1, o22s_2, o22s_3, o22s_4, o22s_5, o47_0, o47_1, o47_2, o47_3, n47, o47s_0, o47s_1, o47s_2, o47s_3, o24_0, o24_1, o24_2, o24_3 = jc_ref, rI_int, rR_ref, rR_null, rJ_long, ckR_ref, ckR_null, ckr_ref, ckr_null, ckW_int, ckW_ref, ckW_null, cI_ok, cR_ok, cR_null, cV_ok, cJ_ok, qH_eq, qD_in, aG_ref, aS_ref, aL_ref, pF_ref, cK_ref, cK_null, zI_lit, zJ_lit, zI_add, zI_sub, zI_mul, zI_neg, zI_eq, zI_lt, zI_le, Int.reduceLT, Int.reduceLE, Int.reduceAdd, Int.reduceSub, Int.reduceMul, Int.reduceNeg, Int.reduceEq, Int.reduceNe, reduceIte, jf_in, pFc_in, aGi, aGb, aSi, aLc_in, cKc_in, nA_in, jm_s1, jm_s2, jm_p1, jm_p2, jm_b, jn_b, jn_s, jn_p, jset_jset, jset_jpush2, ckR_is, ckr_is, rR_is, ckW_is, cR_is, obi2, ckW_int, eq_self, if_true, ref_null, if_false, ne_eq, not_true_eq_false, not_false_eq_true, decide_true, decide_false, decide_not, Bool.true_and, Bool.false_and, Bool.and_true, Bool.and_false, Bool.true_or, Bool.false_or, Bool.or_true, Bool.or_false, Bool.not_true, Bool.not_false, Bool.false_eq_true, bI_t, bI_f, Int.natCast_one, Int.cast_ofNat_Int, Int.natCast_zero, o23_0, o23_1, o23_2, n23, o23s_0, o23s_1, o23s_2, o12_0, o12_1, o13_0, o13_1, o13_2, o13_3, o13_4, o13_5, o13_6, o14_0, o14_1, o14_2, o14_3, o14_4, o14_5, o3_0, o3_1, o3_2, o3_3, o3_4, o11_0, o11_1, o11_2, o11_3, o4_0, o4_1, o4_2, o4_3, o4_4, o4_5, o4_6, n4, o4s_0, o4s_1, o4s_2, o4s_3, o4s_4, o4s_5, o4s_6, o5_0, o5_1, o5_2, o5_3, o5_4, o5_5, n5, o5s_0, o5s_1, o5s_2, o5s_3, o5s_4, o5s_5, o17_0, o17_1, o22_0, o22_1, o22_2, o22_3, o22_4, o22_5, n22, o22s_0, o22s_1, o22s_2, o22s_3, o22s_4, o22s_5, o47_0, o47_1, o47_2, o47_3, n47, o47s_0, o47s_1, o47s_2, o47s_3, o24_0, o24_1, o24_2, o24_3
/-- violations as the twin has laid them -/
def VioT (T : Nat → Int → Int) (V : List Vi) : Prop := T 0 26 = V.length ∧ ∀ (i : Nat) (x : Vi), V[i]? = some x → T 8 i = x.1 ∧ T 9 i = x.2.1 ∧ T 10 i = x.2.2
theorem lay_at : ∀ (l : List Vi) (T : Nat → Int → Int) (n : Nat), T 0 26 = n → (∀ (i : Nat), i < n → layL T l 8 i = T 8 i ∧ layL T l 9 i = T 9 i ∧ layL T l 10 i = T 10 i) ∧ ∀ (i : Nat) (x : Vi), l[i]? = some x → layL T l 8 (n + i : Nat) = x.1 ∧ layL T l 9 (n + i : Nat) = x.2.1 ∧ layL T l 10 (n + i : Nat) = x.2.2
  | [], T, n, _ => ⟨fun _ _ => ⟨rfl, rfl, rfl⟩, fun i x h => by simp at h⟩
  | v :: l, T, n, h => by
    obtain ⟨i1, i2⟩ := lay_at l (lay1 T v) (n + 1) (by rw [lay1_26, h]; rfl)
    have e8 : ∀ j : Int, lay1 T v 8 j = if j = n then v.1 else T 8 j := fun j => by
      unfold lay1
      rw [ts_ne (by decide), ts_ne (by decide), ts_ne (by decide), ts_eq, h]
      rfl
    have e9 : ∀ j : Int, lay1 T v 9 j = if j = n then v.2.1 else T 9 j := fun j => by
      unfold lay1
      rw [ts_ne (by decide), ts_ne (by decide), ts_eq, ts_ne (by decide), h]
      rfl
    have e10 : ∀ j : Int, lay1 T v 10 j = if j = n then v.2.2 else T 10 j := fun j => by
      unfold lay1
      rw [ts_ne (by decide), ts_eq, ts_ne (by decide), ts_ne (by decide), h]
      rfl
    rw [layL_cons]
    refine ⟨fun i hi => ?_, fun i x hx => ?_⟩
    · obtain ⟨a, b, c⟩ := i1 i (by omega)
      rw [a, b, c, e8, e9, e10, if_neg (by omega), if_neg (by omega), if_neg (by omega)]
      exact ⟨rfl, rfl, rfl⟩
    · cases i with
      | zero =>
        obtain ⟨a, b, c⟩ := i1 n (by omega)
        have hv : v = x := Option.some.inj hx
        rw [Nat.add_zero, a, b, c, e8, e9, e10, if_pos rfl, if_pos rfl, if_pos rfl, hv]
        exact ⟨rfl, rfl, rfl⟩
      | succ i =>
        have := i2 i x hx
        rw [show n + (i + 1) = n + 1 + i by omega]
        exact this
theorem lay_vio {T : Nat → Int → Int} {V : List Vi} : VioT (layL (ts T 0 26 0) V) V := by
  obtain ⟨-, h⟩ := lay_at V (ts T 0 26 0) 0 (by rw [ts_eq, fset_eq]; rfl)
  refine ⟨by rw [layL_26, ts_eq, fset_eq]; omega, fun i x hx => ?_⟩
  have := h i x hx
  rw [Nat.zero_add] at this
  exact this
section
variable {S S2 : Int → Int} {w wT : WS} {g : Nat → Bool} {F F2 : Nat → Option Cl} {H : AH} {ra rb : Int → Nat} {l1 : List Value} {B : Nat → Prop} {lo : Nat}
/-- the rows behind what is done -/
theorem rows_done (W : StW S) (hw : WsW w) (hag : AgR w wT) (hcol : ColW S w) (h2a : ∀ k, 0 ≤ k → k < 99 → S2 (150 + k) = if g k.toNat = true then 0 else S (150 + k)) (h2t : ∀ k, 0 ≤ k → k < 99 → S2 (249 + k) = S (249 + k)) (h2c : ∀ k c, 0 ≤ k → k < 99 → 0 ≤ c → c < 4 → S2 (348 + 4 * k + c) = if S (150 + k) = 1 ∧ g k.toNat = false ∧ c < S (4 + S (249 + k)) ∧ isOth S wT k c = true then wT.1 (4 * k + c) else S (348 + 4 * k + c))
    (hRo : RowsF F l1 S 150 348 ra) (hsub : Sub F (Fz B H)) (hlo : ∀ z, B z → z < lo) (hrb : ∀ x ∈ alv S 150 99 0, g x.toNat = false → (chB S w x = false ∧ rb x = ra x) ∨ (chB S w x = true ∧ RowH H (rb x) lo x (S (249 + x)) (celW (cellS S x) w x))) : RowsF (Fz B H) (((alv S 150 99 0).filter fun x => !g x.toNat).map fun r => .ref (rb r)) S2 150 348 rb := by
  have ea : alv S2 150 99 0 = (alv S 150 99 0).filter fun x => !g x.toNat := alv_flt 99 0 fun i i0 i1 => by
    rw [h2a i i0 (by omega)]
    cases g i.toNat with
    | true => simp
    | false => simp
  refine ⟨by rw [ea], fun r r0 r1 h1 => ?_⟩
  rw [h2a r r0 r1] at h1
  have hg : g r.toNat = false := by
    cases hg : g r.toNat with
    | true => rw [hg, if_pos rfl] at h1; exact absurd h1 (by decide)
    | false => rfl
  rw [hg, if_neg (by decide)] at h1
  have hm : r ∈ alv S 150 99 0 := (alv_mem 99 0 r).mpr ⟨r0, by omega, h1⟩
  have TA := W.ta r0 r1
  have CO := W.co TA.1 TA.2
  rw [h2t r r0 r1]
  have cel : ∀ c, 0 ≤ c → c < 4 → S2 (348 + 4 * r + c) = celW (cellS S r) w r c := fun c c0 c1 => by
    rw [h2c r c r0 r1 c0 c1, ← isOth_ag hag r0 r1 c0 c1, ← hag _ (by omega) (by omega)]
    unfold celW
    by_cases hc : c < S (4 + S (249 + r))
    · cases ho : isOth S w r c with
      | true =>
        rw [if_pos ⟨h1, hg, hc, rfl⟩]
        have := isOth_v hw r0 r1 c0 c1 ho
        rw [if_neg (by omega)]
      | false =>
        rw [if_neg (fun z => by cases z.2.2.2)]
        have := oth_eq ho
        unfold celW at this
        exact this.symm
    · have := hcol r c r0 r1 (by omega) c1
      rw [if_neg (fun z => hc z.2.2.1), if_pos this]
      rfl
  rcases hrb r hm hg with ⟨h3, h4⟩ | ⟨h3, e, gg, m1, m2, m3, b1, b2, e1, e2⟩
  · rw [h4]
    obtain ⟨e, gg, m1, m2, m3⟩ := hRo.2 r r0 r1 h1
    refine ⟨e, gg, hsub _ _ m1, hsub _ _ m2, fun c c0 c1 => ?_⟩
    show gg c = S2 (348 + 4 * r + c)
    rw [m3 c c0 c1, cel c c0 c1]
    unfold celW
    by_cases hw9 : w.1 (4 * r + c) = -9
    · rw [if_pos hw9]; rfl
    · by_cases hc : c < S (4 + S (249 + r))
      · have ho := anyF_no _ 0 h3 c c0 (by omega)
        have := oth_eq ho
        unfold celW at this
        rw [this]; rfl
      · exact absurd (hcol r c r0 r1 (by omega) c1) hw9
  · exact ⟨e, gg, Fz_in b2 (fun z => by have := hlo _ z; omega) m1, Fz_in e2 (fun z => by have := hlo _ z; omega) m2, fun c c0 c1 => by show gg c = S2 (348 + 4 * r + c); rw [m3 c c0 c1, cel c c0 c1]⟩
/-- the rows behind an insertion -/
theorem rows_ins {L : Int → Int} {to : Int} (W : StW S) (I : InW S L to) (h9 : S 148 < 99) (hRo : RowsF F l1 S 150 348 ra) (hsub : Sub F F2) {nb ce : Nat} {gc : Int → Int} (hb : F2 nb = some (23, 3, o23 (S 148) (L (to + 1)) (.ref ce))) (hc : F2 ce = some (1000, 4, aI gc)) (hg : ∀ c, 0 ≤ c → c < 4 → gc c = insV S L to c) : RowsF F2 (l1 ++ [.ref nb]) (insS S L to) 150 348 (fun r => if r = S 148 then nb else ra r) := by
  have w5 := W.2.2.2.2.1
  have al : ∀ i, S (150 + i) = 1 → 0 ≤ i → i < 0 + (99 : Nat) → i < S 148 := fun i h i0 i1 => ((W.2.1 i i0 (by omega)).1.2 h).2.1
  have at150 : ∀ i, 0 ≤ i → i < 99 → insS S L to (150 + i) = if i = S 148 then 1 else S (150 + i) := fun i i0 i1 => by
    unfold insS insQ
    rw [fset_ne (by omega)]
    by_cases e : i = S 148
    · rw [if_pos (by omega), if_pos e]
    · rw [if_neg (by omega), if_neg (by omega), if_neg (by omega), if_neg e]
  have ea : alv (insS S L to) 150 99 0 = alv S 150 99 0 ++ [S 148] := alv_app 99 0 w5.1 (by omega) (fun i i0 i1 => by
    rw [at150 i i0 (by omega)]
    by_cases e : i = S 148
    · rw [if_pos e]; exact ⟨fun _ => Or.inr e, fun _ => rfl⟩
    · rw [if_neg e]; exact ⟨Or.inl, fun z => z.elim id fun z => absurd z e⟩) al
  refine ⟨?_, fun r r0 r1 h1 => ?_⟩
  · rw [ea, List.map_append, hRo.1]
    congr 1
    · refine List.map_congr_left fun x hx => ?_
      have := (alv_mem 99 0 x).mp hx
      have := al x this.2.2 this.1 this.2.1
      show Value.ref (ra x) = Value.ref (if x = S 148 then nb else ra x)
      rw [if_neg (by omega)]
    · simp
  · rw [at150 r r0 r1] at h1
    by_cases e : r = S 148
    · simp only [if_pos e]
      refine ⟨ce, gc, ?_, hc, fun c c0 c1 => ?_⟩
      · rw [hb]
        have : insS S L to (249 + r) = L (to + 1) := by
          unfold insS insQ
          rw [fset_ne (by omega), if_neg (by omega), if_pos (by omega)]
        rw [this, e]
      · show gc c = insS S L to (348 + 4 * r + c)
        rw [hg c c0 c1]
        unfold insS insQ
        rw [fset_ne (by omega), if_neg (by omega), if_neg (by omega), if_pos (by omega), show 348 + 4 * r + c - (348 + 4 * S 148) = c by omega]
    · rw [if_neg e] at h1
      simp only [if_neg e]
      obtain ⟨x, gg, m1, m2, m3⟩ := hRo.2 r r0 r1 h1
      have lt := al r h1 r0 (by omega)
      refine ⟨x, gg, ?_, hsub _ _ m2, fun c c0 c1 => ?_⟩
      · have : insS S L to (249 + r) = S (249 + r) := by
          unfold insS insQ
          rw [fset_ne (by omega), if_neg (by omega), if_neg (by omega), if_neg (by omega)]
        rw [this]; exact hsub _ _ m1
      · show gg c = insS S L to (348 + 4 * r + c)
        rw [m3 c c0 c1]
        unfold insS insQ
        rw [fset_ne (by omega), if_neg (by omega), if_neg (by omega), if_neg (by omega)]
end
section
variable {d : Nat} {H : AH}
/-- a new verdict -/
theorem c_vnew : ∃ H2, M2 (d + 7) 22900 [.ref H.1] (jpush H (22, 6, o22 0 0 0 0 0 .null)) = some (.inl none, H2) ∧ VdH H2 H.1 0 0 0 0 0 (H.1 + 1) ∧ LLat H2 (H.1 + 1) [] [] ∧ Fr H H2 (fun _ => False) ∧ H2.1 = H.1 + 2 ∧ H2.2.1 = H.2.1 + 10 := by
  have m0 : jm (jpush H (22, 6, o22 0 0 0 0 0 .null)) H.1 = some (22, 6, o22 0 0 0 0 0 .null) := jm_p1
  have m1 : jm (jpush (jpush H (22, 6, o22 0 0 0 0 0 .null)) (47, 4, o47 0 0 .null .null)) (H.1 + 1) = some (47, 4, o47 0 0 .null .null) := jm_p1
  obtain ⟨H1, a1, a2, a3, a4, a5⟩ := ll_new (d := d + 1) m1
  have ne : H.1 ≠ H.1 + 1 := by omega
  have n1 : H1.1 = H.1 + 2 := by rw [a4]; rfl
  have n2 : H1.2.1 = H.2.1 + 10 := by rw [a5]; rfl
  have fp : Fr H (jpush (jpush H (22, 6, o22 0 0 0 0 0 .null)) (47, 4, o47 0 0 .null .null)) (fun _ => False) := Fr.push.tr Fr.push
  have f1 : Fr H H1 (fun _ => False) := fp.new (a3.mono fun x hx z => Or.inr (by rw [z]; exact Nat.le_succ _))
  have v1 : jm H1 H.1 = some (22, 6, o22 0 0 0 0 0 .null) := (a3.2.2 H.1 (by show H.1 < H.1 + 1 + 1; omega) ne).trans ((jm_p2 ne).trans m0)
  obtain ⟨H2, hH2⟩ : ∃ H2, H2 = jset H1 H.1 (22, 6, o22 0 0 0 0 0 (.ref (H.1 + 1))) := ⟨_, rfl⟩
  have f2 : Fr H1 H2 (fun z => z = H.1) := by rw [hH2]; exact Fr.set rfl
  refine ⟨H2, ?_, ⟨by rw [hH2]; exact jm_s1, by rw [hH2]; show H.1 < H1.1; omega⟩, a2.fr f2 (by omega) (Ne.symm ne) (fun _ z => by cases z), f1.new (f2.mono fun x _ z => Or.inr (by rw [z]; exact Nat.le_refl _)), by rw [hH2]; exact n1, by rw [hH2]; exact n2⟩
  rw [Y22900 _ (jrecv_in m0 rfl), F22900_0]
  simp (disch := first | assumption | omega | decide | exact okF_i | exact okF_r | exact okF_n | exact okF_j | rfl) only [jc_ref, rI_int, rR_ref, rR_null, rJ_long, ckR_ref, ckR_null, ckr_ref, ckr_null, ckW_int, ckW_ref, ckW_null, cI_ok, cR_ok, cR_null, cV_ok, cJ_ok, qH_eq, qD_in, aG_ref, aS_ref, aL_ref, pF_ref, cK_ref, cK_null, zI_lit, zJ_lit, zI_add, zI_sub, zI_mul, zI_neg, zI_eq, zI_lt, zI_le, Int.reduceLT, Int.reduceLE, Int.reduceAdd, Int.reduceSub, Int.reduceMul, Int.reduceNeg, Int.reduceEq, Int.reduceNe, reduceIte, jf_in, pFc_in, aGi, aGb, aSi, aLc_in, cKc_in, nA_in, jm_s1, jm_s2, jm_p1, jm_p2, jm_b, jn_b, jn_s, jn_p, jset_jset, jset_jpush2, ckR_is, ckr_is, rR_is, ckW_is, cR_is, obi2, ckW_int, eq_self, if_true, ref_null, if_false, ne_eq, not_true_eq_false, not_false_eq_true, decide_true, decide_false, decide_not, Bool.true_and, Bool.false_and, Bool.and_true, Bool.and_false, Bool.true_or, Bool.false_or, Bool.or_true, Bool.or_false, Bool.not_true, Bool.not_false, Bool.false_eq_true, bI_t, bI_f, Int.natCast_one, Int.cast_ofNat_Int, Int.natCast_zero, o23_0, o23_1, o23_2, n23, o23s_0, o23s_1, o23s_2, o12_0, o12_1, o13_0, o13_1, o13_2, o13_3, o13_4, o13_5, o13_6, o14_0, o14_1, o14_2, o14_3, o14_4, o14_5, o3_0, o3_1, o3_2, o3_3, o3_4, o11_0, o11_1, o11_2, o11_3, o4_0, o4_1, o4_2, o4_3, o4_4, o4_5, o4_6, n4, o4s_0, o4s_1, o4s_2, o4s_3, o4s_4, o4s_5, o4s_6, o5_0, o5_1, o5_2, o5_3, o5_4, o5_5, n5, o5s_0, o5s_1, o5s_2, o5s_3, o5s_4, o5s_5, o17_0, o17_1, o22_0, o22_1, o22_2, o22_3, o22_4, o22_5, n22, o22s_0, o22s_1, o22s_2, o22s_3, o22s_4, o22s_5, o47_0, o47_1, o47_2, o47_3, n47, o47s_0, o47s_1, o47s_2, o47s_3, o24_0, o24_1, o24_2, o24_3, a1, v1, ← hH2]
end
