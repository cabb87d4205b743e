/-! violations of a row: they are laid into a list -/
-- jc_ref, rI_int, rR_ref, rR_null, rJ_long, ckR_ref, ckR_null, ckr_ref, ckr_null, ckW_int, ckW_ref, ckW_null, cI_ok, cR_ok, cR_null, cV_ok, cJ_ok, qH_eq, qD_in, aG_ref, aS_ref, aL_ref, pF_ref, cK_ref, cK_null, zI_lit, zJ_lit, zI_add, zI_sub, zI_mul, zI_neg, zI_eq, zI_lt, zI_le, Int.reduceLT, Int.reduceLE, Int.reduceAdd, Int.reduceSub, Int.reduceMul, Int.reduceNeg, Int.reduceEq, Int.reduceNe, reduceIte, jf_in, pFc_in, aGi, aGb, aSi, aLc_in, cKc_in, nA_in, jm_s1, jm_s2, jm_p1, jm_p2, jm_b, jn_b, jn_s, jn_p, jset_jset, jset_jpush2, ckR_is, ckr_is, rR_is, ckW_is, cR_is, obi2, ckW_int, eq_self, if_true, ref_null, if_false, ne_eq, not_true_eq_false, not_false_eq_true, decide_true, decide_false, decide_not, Bool.true_and, Bool.false_and, Bool.and_true, Bool.and_false, Bool.true_or, Bool.false_or, Bool.or_true, Bool.or_false, Bool.not_true, Bool.not_false, Bool.false_eq_true, bI_t, bI_f, Int.natCast_one, Int.cast_ofNat_Int, Int.natCast_zero, o23_0, o23_1, o23_2, o12_0, o12_1, o13_0, o13_1, o13_2, o13_3, o13_4, o13_5, o13_6, o14_0, o14_1, o14_2, o14_3, o14_4, o14_5, o3_0, o3_1, o3_2, o3_3, o3_4, o11_0, o11_1, o11_2, o11_3, o4_0, o4_1, o4_2, o4_3, o4_4, o4_5, o4_6, o24_0, o24_1, o24_2, o24_3, n24, o24s_0, o24s_1, o24s_2, o24s_3 = jc_ref, rI_int, rR_ref, rR_null, rJ_long, ckR_ref, ckR_null, ckr_ref, ckr_null, ckW_int, ckW_ref, ckW_null, cI_ok, cR_ok, cR_null, cV_ok, cJ_ok, qH_eq, qD_in, aG_ref, aS_ref, aL_ref, pF_ref, cK_ref, cK_null, zI_lit, zJ_lit, zI_add, zI_sub, zI_mul, zI_neg, zI_eq, zI_lt, zI_le, Int.reduceLT, Int.reduceLE, Int.reduceAdd, Int.reduceSub, Int.reduceMul, Int.reduceNeg, Int.reduceEq, Int.reduceNe, reduceIte, jf_in, pFc_in, aGi, aGb, aSi, aLc_in, cKc_in, nA_in, jm_s1, jm_s2, jm_p1, jm_p2, jm_b, jn_b, jn_s, jn_p, jset_jset, jset_jpush2, ckR_is, ckr_is, rR_is, ckW_is, cR_is, obi2, ckW_int, eq_self, if_true, ref_null, if_false, ne_eq, not_true_eq_false, not_false_eq_true, decide_true, decide_false, decide_not, Bool.true_and, Bool.false_and, Bool.and_true, Bool.and_false, Bool.true_or, Bool.false_or, Bool.or_true, Bool.or_false, Bool.not_true, Bool.not_false, Bool.false_eq_true, bI_t, bI_f, Int.natCast_one, Int.cast_ofNat_Int, Int.natCast_zero, o23_0, o23_1, o23_2, o12_0, o12_1, o13_0, o13_1, o13_2, o13_3, o13_4, o13_5, o13_6, o14_0, o14_1, o14_2, o14_3, o14_4, o14_5, o3_0, o3_1, o3_2, o3_3, o3_4, o11_0, o11_1, o11_2, o11_3, o4_0, o4_1, o4_2, o4_3, o4_4, o4_5, o4_6, o24_0, o24_1, o24_2, o24_3, n24, o24s_0, o24s_1, o24s_2, o24s_3
theorem StoQ.fr {F : Nat → Option Cl} {H H2 : AH} {a q : Nat} {S : Int → Int} {ra : Int → Nat} (h : StoQ F H a q S ra) (f : Fr H H2 (fun _ => False)) : StoQ F H2 a q S ra := by
  obtain ⟨ins, on, ar, v1, v2, v3, cap, mc, l, h1, h2, h3, h4, h5, h6⟩ := h
  exact ⟨ins, on, ar, v1, v2, v3, cap, mc, l, (f.2.2 a h5 id).trans h1, (f.2.2 ar h6 id).trans h2, h3, h4, Nat.lt_of_lt_of_le h5 f.1, Nat.lt_of_lt_of_le h6 f.1⟩
theorem Fzn.f0 {F : Nat → Option Cl} {H H2 : AH} (h : Fzn F H) (f : Fr H H2 (fun _ => False)) : Fzn F H2 := h.fr f fun _ z => z.elim
/-- a list of violations, the last things made -/
def VI (S : Int → Int) (H0 H : AH) (xs : List Vi) : Prop := Fr H0 H (fun _ => False) ∧ ∃ (ns : List Nat) (vs : List Value), LLat H H0.1 ns vs ∧ (∀ q ∈ ns, H0.1 ≤ q) ∧ vs.length = xs.length ∧ (∀ (i : Nat) (x : Vi), xs[i]? = some x → ∃ b : Nat, vs[i]? = some (.ref b) ∧ b < H.1 ∧ H0.1 ≤ b ∧ jm H b = some (24, 4, o24 x.1 (S (249 + x.2.2)) x.2.1 x.2.2)) ∧ H.1 = H0.1 + 1 + 2 * xs.length ∧ H.2.1 = H0.2.1 + 4 + 7 * xs.length
section
variable {F : Nat → Option Cl} {d : Nat} {H H0 : AH} {a b e q fb : Nat} {r t c k n f : Int} {cs S nm : Int → Int} {ra : Int → Nat} {xs : List Vi}
theorem vi_add (hF : Fzn F H0) (hV : VI S H0 H xs) (hb : RowF F b r (S (249 + r)) cs) (hl : xs.length < 80000) :
    ∃ H2, M2 (d + 4) 24900 [.ref H.1, .int (zI k), .int (zI n), .ref b] (jpush H (24, 4, o24 0 0 0 0)) = some (.inl none, jpush H (24, 4, o24 k (S (249 + r)) n r)) ∧ M2 (d + 4) 47000 [.ref H0.1, .ref H.1] (jpush H (24, 4, o24 k (S (249 + r)) n r)) = some (.inl none, H2) ∧ VI S H0 H2 (xs ++ [(k, n, r)]) := by
  obtain ⟨fr, ns, vs, v1, v2, v3, v4, v5, v6⟩ := hV
  have hF1 := hF.f0 fr
  have hF2 : Fzn F (jpush H (24, 4, o24 k (S (249 + r)) n r)) := hF1.f0 Fr.push
  obtain ⟨be, bg, b1, b2, b3⟩ := hb
  have b1' := hF1.m b1
  have bl := hF1.lt b1
  have bh : b ≠ H.1 := Nat.ne_of_lt bl
  have al : H0.1 < H.1 := by omega
  have fp : Fr H (jpush H (24, 4, o24 k (S (249 + r)) n r)) (fun _ => False) := Fr.push
  have l2 := v1.2.1
  have ll1 : LLat (jpush H (24, 4, o24 k (S (249 + r)) n r)) H0.1 ns vs := v1.fr fp al (fun z => z) (fun _ _ z => z)
  obtain ⟨H2, a1, a2, a3, a4, a5⟩ := ll_add (d := d) ll1 (v := .ref H.1) rfl (Nat.lt_succ_of_lt al) v1.na (by omega)
  refine ⟨H2, ?_, a1, ⟨?_, _, _, a2, ?_, by simp [v3], ?_, ?_, ?_⟩⟩
  · have m0 : jm (jpush H (24, 4, o24 0 0 0 0)) H.1 = some (24, 4, o24 0 0 0 0) := jm_p1
    rw [Y24900 _ rfl (jrecv_in m0 rfl), F24900_0]
    simp (disch := first | assumption | omega | decide | exact okF_i | exact okF_r | exact okF_n | exact okF_j | rfl) only [jc_ref, rI_int, rR_ref, rR_null, rJ_long, ckR_ref, ckR_null, ckr_ref, ckr_null, ckW_int, ckW_ref, ckW_null, cI_ok, cR_ok, cR_null, cV_ok, cJ_ok, qH_eq, qD_in, aG_ref, aS_ref, aL_ref, pF_ref, cK_ref, cK_null, zI_lit, zJ_lit, zI_add, zI_sub, zI_mul, zI_neg, zI_eq, zI_lt, zI_le, Int.reduceLT, Int.reduceLE, Int.reduceAdd, Int.reduceSub, Int.reduceMul, Int.reduceNeg, Int.reduceEq, Int.reduceNe, reduceIte, jf_in, pFc_in, aGi, aGb, aSi, aLc_in, cKc_in, nA_in, jm_s1, jm_s2, jm_p1, jm_p2, jm_b, jn_b, jn_s, jn_p, jset_jset, jset_jpush2, ckR_is, ckr_is, rR_is, ckW_is, cR_is, obi2, ckW_int, eq_self, if_true, ref_null, if_false, ne_eq, not_true_eq_false, not_false_eq_true, decide_true, decide_false, decide_not, Bool.true_and, Bool.false_and, Bool.and_true, Bool.and_false, Bool.true_or, Bool.false_or, Bool.or_true, Bool.or_false, Bool.not_true, Bool.not_false, Bool.false_eq_true, bI_t, bI_f, Int.natCast_one, Int.cast_ofNat_Int, Int.natCast_zero, o23_0, o23_1, o23_2, o12_0, o12_1, o13_0, o13_1, o13_2, o13_3, o13_4, o13_5, o13_6, o14_0, o14_1, o14_2, o14_3, o14_4, o14_5, o3_0, o3_1, o3_2, o3_3, o3_4, o11_0, o11_1, o11_2, o11_3, o4_0, o4_1, o4_2, o4_3, o4_4, o4_5, o4_6, o24_0, o24_1, o24_2, o24_3, n24, o24s_0, o24s_1, o24s_2, o24s_3, b1']
  · refine (fr.new ((fp.mono fun _ _ z => z.elim).tr (a3.mono fun x hx z => ?_)))
    rcases z with z | z
    · exact Or.inr (by rw [z]; exact Nat.le_refl _)
    · exact Or.inr (v2 x z)
  · intro x hx
    rcases List.mem_append.mp hx with hx | hx
    · exact v2 x hx
    · rw [List.mem_singleton.mp hx]
      show H0.1 ≤ H.1 + 1
      omega
  · intro i x hx
    have key : ∀ (y : Nat) (c : Cl), y < H.1 + 1 → jm (jpush H (24, 4, o24 k (S (249 + r)) n r)) y = some c → c.1 = 24 → jm H2 y = some c := fun y c h1 h2 h3 => by
      rw [a3.2.2 y h1 (fun z => ?_)]
      · exact h2
      · rcases z with z | z
        · obtain ⟨⟨mc, q1⟩, -⟩ := ll1
          rw [z, q1] at h2
          cases h2; cases h3
        · obtain ⟨j, hj⟩ := List.getElem?_of_mem z
          have := (ll1.2.2.2.2.2 j y hj).1
          rw [this] at h2
          cases h2; cases h3
    by_cases hi : i < xs.length
    · rw [List.getElem?_append_left hi] at hx
      obtain ⟨y, y1, y2, y3, y4⟩ := v4 i x hx
      refine ⟨y, ?_, ?_, y3, key y _ (Nat.lt_succ_of_lt y2) ((jm_p2 (Nat.ne_of_lt y2)).trans y4) rfl⟩
      · rw [List.getElem?_append_left (by omega)]; exact y1
      · rw [a4]
        show y < H.1 + 1 + 1
        omega
    · rw [List.getElem?_append_right (by omega)] at hx
      have hi0 : i - xs.length = 0 := by
        by_cases h0 : i - xs.length = 0
        · exact h0
        · rw [List.getElem?_eq_none (by simp; omega)] at hx; cases hx
      rw [hi0] at hx
      cases hx
      refine ⟨H.1, ?_, ?_, by omega, key H.1 _ (Nat.lt_succ_self _) jm_p1 rfl⟩
      · rw [List.getElem?_append_right (by omega), show i - vs.length = 0 by omega]; rfl
      · rw [a4]
        show H.1 < H.1 + 1 + 1
        omega
  · rw [a4, List.length_append]
    show H.1 + 1 + 1 = _
    simp only [List.length_singleton]
    omega
  · rw [a5, List.length_append]
    show H.2.1 + 4 + 3 = _
    simp only [List.length_singleton]
    omega
end
/-- a row's violations of one sort -/
def rwF (so r : Int) (P : Int → Bool) : Nat → Int → List Vi
  | 0, _ => []
  | n + 1, k => if P k = true then (so, k, r) :: rwF so r P n (k + 1) else rwF so r P n (k + 1)
theorem rwF_len {so r : Int} {P : Int → Bool} : ∀ (n : Nat) (k : Int), (rwF so r P n k).length ≤ n
  | 0, _ => Nat.le_refl _
  | n + 1, k => by
    have := rwF_len (so := so) (r := r) (P := P) n (k + 1)
    simp only [rwF]
    by_cases h : P k = true
    · rw [if_pos h, List.length_cons]; omega
    · rw [if_neg h]; omega
def ndP (S : Int → Int) (r c : Int) : Bool := decide (cellS S r c = -1) && neededS S (S (249 + r)) c
def kyP (S : Int → Int) (r k : Int) : Bool := decide (S (249 + r) = S (40 + k)) && earlS S r k
def rfQ (S : Int → Int) (late : Bool) (r f : Int) : Bool := (late || !decide (S (106 + f) = 1)) && (decide (S (249 + r) = S (58 + f)) && badRefS S r f)
def ckP (S : Int → Int) (late : Bool) (r k : Int) : Bool := (late || !decide (S (142 + k) = 1)) && (decide (S (249 + r) = S (112 + k)) && badChkS S r k)
def rowV (S : Int → Int) (late : Bool) (r : Int) : List Vi := rwF 1 r (ndP S r) (S (4 + S (249 + r))).toNat 0 ++ (rwF 2 r (kyP S r) (S 1).toNat 0 ++ (rwF 3 r (rfQ S late r) (S 2).toNat 0 ++ rwF 4 r (ckP S late r) (S 3).toNat 0))
section
variable {F : Nat → Option Cl} {d : Nat} {H H0 : AH} {a b e q fb : Nat} {r t c k n f : Int} {cs S nm : Int → Int} {ra : Int → Nat} {xs : List Vi}
theorem vr_nd (W : StW S) (hF : Fzn F H0) (hS : SchF F q S nm) (hQ : StoQ F H0 a q S ra) (hb : RowF F b r (S (249 + r)) (cellS S r)) (r0 : 0 ≤ r) (r1 : r < 99) (t1 : S (249 + r) < S 0) {late : Int} {tb : Nat} (hT : TabF F tb (S (249 + r)) S nm) : ∀ (n : Nat) (c : Int) (H : AH) (xs : List Vi), VI S H0 H xs → 0 ≤ c → c + n = S (4 + S (249 + r)) → xs.length + n < 50000 →
    ∃ H2, G2 (d + 6) 4013 22 [.ref a, .ref b, .int (zI late), .ref H0.1, .ref tb, .int (zI c)] [] H = G2 (d + 6) 4013 86 [.ref a, .ref b, .int (zI late), .ref H0.1, .ref tb, .int (zI 0)] [] H2 ∧ VI S H0 H2 (xs ++ rwF 1 r (ndP S r) n c) := by
  intro n
  have hS' := hS
  obtain ⟨ln, qt, qk, qr, qc, m, hTs, hKs, hRs, hCs⟩ := hS
  have hT' := hT
  obtain ⟨qn, qcs, qd, qb, u1, -, u2, -⟩ := hT
  have TA := W.ta r0 r1
  have C1 := W.co TA.1 TA.2
  induction n with
  | zero =>
    intro c H xs hV c0 hc hl
    have hF1 := hF.f0 hV.1
    have u1' := hF1.m u1
    have usz := u2.size hF1
    refine ⟨H, ?_, by rw [rwF, List.append_nil]; exact hV⟩
    rw [F4013_22]
    simp (disch := first | assumption | omega | decide | exact okF_i | exact okF_r | exact okF_n | exact okF_j | rfl) only [jc_ref, rI_int, rR_ref, rR_null, rJ_long, ckR_ref, ckR_null, ckr_ref, ckr_null, ckW_int, ckW_ref, ckW_null, cI_ok, cR_ok, cR_null, cV_ok, cJ_ok, qH_eq, qD_in, aG_ref, aS_ref, aL_ref, pF_ref, cK_ref, cK_null, zI_lit, zJ_lit, zI_add, zI_sub, zI_mul, zI_neg, zI_eq, zI_lt, zI_le, Int.reduceLT, Int.reduceLE, Int.reduceAdd, Int.reduceSub, Int.reduceMul, Int.reduceNeg, Int.reduceEq, Int.reduceNe, reduceIte, jf_in, pFc_in, aGi, aGb, aSi, aLc_in, cKc_in, nA_in, jm_s1, jm_s2, jm_p1, jm_p2, jm_b, jn_b, jn_s, jn_p, jset_jset, jset_jpush2, ckR_is, ckr_is, rR_is, ckW_is, cR_is, obi2, ckW_int, eq_self, if_true, ref_null, if_false, ne_eq, not_true_eq_false, not_false_eq_true, decide_true, decide_false, decide_not, Bool.true_and, Bool.false_and, Bool.and_true, Bool.and_false, Bool.true_or, Bool.false_or, Bool.or_true, Bool.or_false, Bool.not_true, Bool.not_false, Bool.false_eq_true, bI_t, bI_f, Int.natCast_one, Int.cast_ofNat_Int, Int.natCast_zero, o23_0, o23_1, o23_2, o12_0, o12_1, o13_0, o13_1, o13_2, o13_3, o13_4, o13_5, o13_6, o14_0, o14_1, o14_2, o14_3, o14_4, o14_5, o3_0, o3_1, o3_2, o3_3, o3_4, o11_0, o11_1, o11_2, o11_3, o4_0, o4_1, o4_2, o4_3, o4_4, o4_5, o4_6, o24_0, o24_1, o24_2, o24_3, n24, o24s_0, o24s_1, o24s_2, o24s_3, u1', usz]
    rw [if_pos (by omega)]
  | succ n ih =>
    intro c H xs hV c0 hc hl
    have hF1 := hF.f0 hV.1
    have hQ1 := hQ.fr hV.1
    have u1' := hF1.m u1
    have usz := u2.size hF1
    have m' := hF1.m m
    obtain ⟨be, bg, b1, b2, b3⟩ := id hb
    have b1' := hF1.m b1
    have b2' := hF1.m b2
    have b3' := b3 c c0 (by omega)
    have nd := c_needed (d := d + 3) W hF1 hS' TA.1 t1 c0 (c := c) (by omega)
    have cw := W.csw r0 r1 c c0 (by omega)
    obtain ⟨ins, on, ar, v1, v2, v3, cap, mc, l, h1, -⟩ := hQ1
    have e : rwF 1 r (ndP S r) (n + 1) c = if ndP S r c = true then (1, c, r) :: rwF 1 r (ndP S r) n (c + 1) else rwF 1 r (ndP S r) n (c + 1) := rfl
    have e2 : ndP S r c = (decide (cellS S r c = -1) && neededS S (S (249 + r)) c) := rfl
    rw [e, e2]
    by_cases q1 : cellS S r c = -1
    · rw [decide_eq_true q1, Bool.true_and]
      cases q2 : neededS S (S (249 + r)) c with
      | true =>
        obtain ⟨H2, a1, a2, a3⟩ := vi_add (d := d + 2) (k := 1) (n := c) hF hV hb (by omega)
        obtain ⟨H3, i1, i2⟩ := ih (c + 1) H2 _ a3 (by omega) (by omega) (by rw [List.length_append]; simp only [List.length_singleton]; omega)
        rw [q2] at nd
        refine ⟨H3, ?_, by rw [if_pos rfl]; rw [List.append_assoc] at i2; exact i2⟩
        rw [F4013_22]
        simp (disch := first | assumption | omega | decide | exact okF_i | exact okF_r | exact okF_n | exact okF_j | rfl) only [jc_ref, rI_int, rR_ref, rR_null, rJ_long, ckR_ref, ckR_null, ckr_ref, ckr_null, ckW_int, ckW_ref, ckW_null, cI_ok, cR_ok, cR_null, cV_ok, cJ_ok, qH_eq, qD_in, aG_ref, aS_ref, aL_ref, pF_ref, cK_ref, cK_null, zI_lit, zJ_lit, zI_add, zI_sub, zI_mul, zI_neg, zI_eq, zI_lt, zI_le, Int.reduceLT, Int.reduceLE, Int.reduceAdd, Int.reduceSub, Int.reduceMul, Int.reduceNeg, Int.reduceEq, Int.reduceNe, reduceIte, jf_in, pFc_in, aGi, aGb, aSi, aLc_in, cKc_in, nA_in, jm_s1, jm_s2, jm_p1, jm_p2, jm_b, jn_b, jn_s, jn_p, jset_jset, jset_jpush2, ckR_is, ckr_is, rR_is, ckW_is, cR_is, obi2, ckW_int, eq_self, if_true, ref_null, if_false, ne_eq, not_true_eq_false, not_false_eq_true, decide_true, decide_false, decide_not, Bool.true_and, Bool.false_and, Bool.and_true, Bool.and_false, Bool.true_or, Bool.false_or, Bool.or_true, Bool.or_false, Bool.not_true, Bool.not_false, Bool.false_eq_true, bI_t, bI_f, Int.natCast_one, Int.cast_ofNat_Int, Int.natCast_zero, o23_0, o23_1, o23_2, o12_0, o12_1, o13_0, o13_1, o13_2, o13_3, o13_4, o13_5, o13_6, o14_0, o14_1, o14_2, o14_3, o14_4, o14_5, o3_0, o3_1, o3_2, o3_3, o3_4, o11_0, o11_1, o11_2, o11_3, o4_0, o4_1, o4_2, o4_3, o4_4, o4_5, o4_6, o24_0, o24_1, o24_2, o24_3, n24, o24s_0, o24s_1, o24s_2, o24s_3, u1', usz, b1', b2', b3', q1, m', h1, nd, a1, a2]
        rw [if_neg (by omega)]
        exact i1
      | false =>
        obtain ⟨H3, i1, i2⟩ := ih (c + 1) H xs hV (by omega) (by omega) (by omega)
        rw [q2] at nd
        refine ⟨H3, ?_, by rw [if_neg (by decide)]; exact i2⟩
        rw [F4013_22]
        simp (disch := first | assumption | omega | decide | exact okF_i | exact okF_r | exact okF_n | exact okF_j | rfl) only [jc_ref, rI_int, rR_ref, rR_null, rJ_long, ckR_ref, ckR_null, ckr_ref, ckr_null, ckW_int, ckW_ref, ckW_null, cI_ok, cR_ok, cR_null, cV_ok, cJ_ok, qH_eq, qD_in, aG_ref, aS_ref, aL_ref, pF_ref, cK_ref, cK_null, zI_lit, zJ_lit, zI_add, zI_sub, zI_mul, zI_neg, zI_eq, zI_lt, zI_le, Int.reduceLT, Int.reduceLE, Int.reduceAdd, Int.reduceSub, Int.reduceMul, Int.reduceNeg, Int.reduceEq, Int.reduceNe, reduceIte, jf_in, pFc_in, aGi, aGb, aSi, aLc_in, cKc_in, nA_in, jm_s1, jm_s2, jm_p1, jm_p2, jm_b, jn_b, jn_s, jn_p, jset_jset, jset_jpush2, ckR_is, ckr_is, rR_is, ckW_is, cR_is, obi2, ckW_int, eq_self, if_true, ref_null, if_false, ne_eq, not_true_eq_false, not_false_eq_true, decide_true, decide_false, decide_not, Bool.true_and, Bool.false_and, Bool.and_true, Bool.and_false, Bool.true_or, Bool.false_or, Bool.or_true, Bool.or_false, Bool.not_true, Bool.not_false, Bool.false_eq_true, bI_t, bI_f, Int.natCast_one, Int.cast_ofNat_Int, Int.natCast_zero, o23_0, o23_1, o23_2, o12_0, o12_1, o13_0, o13_1, o13_2, o13_3, o13_4, o13_5, o13_6, o14_0, o14_1, o14_2, o14_3, o14_4, o14_5, o3_0, o3_1, o3_2, o3_3, o3_4, o11_0, o11_1, o11_2, o11_3, o4_0, o4_1, o4_2, o4_3, o4_4, o4_5, o4_6, o24_0, o24_1, o24_2, o24_3, n24, o24s_0, o24s_1, o24s_2, o24s_3, u1', usz, b1', b2', b3', q1, m', h1, nd]
        rw [if_neg (by omega)]
        exact i1
    · obtain ⟨H3, i1, i2⟩ := ih (c + 1) H xs hV (by omega) (by omega) (by omega)
      rw [decide_eq_false q1, Bool.false_and]
      refine ⟨H3, ?_, by rw [if_neg (by decide)]; exact i2⟩
      rw [F4013_22]
      simp (disch := first | assumption | omega | decide | exact okF_i | exact okF_r | exact okF_n | exact okF_j | rfl) only [jc_ref, rI_int, rR_ref, rR_null, rJ_long, ckR_ref, ckR_null, ckr_ref, ckr_null, ckW_int, ckW_ref, ckW_null, cI_ok, cR_ok, cR_null, cV_ok, cJ_ok, qH_eq, qD_in, aG_ref, aS_ref, aL_ref, pF_ref, cK_ref, cK_null, zI_lit, zJ_lit, zI_add, zI_sub, zI_mul, zI_neg, zI_eq, zI_lt, zI_le, Int.reduceLT, Int.reduceLE, Int.reduceAdd, Int.reduceSub, Int.reduceMul, Int.reduceNeg, Int.reduceEq, Int.reduceNe, reduceIte, jf_in, pFc_in, aGi, aGb, aSi, aLc_in, cKc_in, nA_in, jm_s1, jm_s2, jm_p1, jm_p2, jm_b, jn_b, jn_s, jn_p, jset_jset, jset_jpush2, ckR_is, ckr_is, rR_is, ckW_is, cR_is, obi2, ckW_int, eq_self, if_true, ref_null, if_false, ne_eq, not_true_eq_false, not_false_eq_true, decide_true, decide_false, decide_not, Bool.true_and, Bool.false_and, Bool.and_true, Bool.and_false, Bool.true_or, Bool.false_or, Bool.or_true, Bool.or_false, Bool.not_true, Bool.not_false, Bool.false_eq_true, bI_t, bI_f, Int.natCast_one, Int.cast_ofNat_Int, Int.natCast_zero, o23_0, o23_1, o23_2, o12_0, o12_1, o13_0, o13_1, o13_2, o13_3, o13_4, o13_5, o13_6, o14_0, o14_1, o14_2, o14_3, o14_4, o14_5, o3_0, o3_1, o3_2, o3_3, o3_4, o11_0, o11_1, o11_2, o11_3, o4_0, o4_1, o4_2, o4_3, o4_4, o4_5, o4_6, o24_0, o24_1, o24_2, o24_3, n24, o24s_0, o24s_1, o24s_2, o24s_3, u1', usz, b1', b2', b3', q1, m', h1]
      rw [if_neg (by omega)]
      exact i1
theorem vr_ky (W : StW S) (hF : Fzn F H0) (hS : SchF F q S nm) (hQ : StoQ F H0 a q S ra) (hb : RowF F (ra r) r (S (249 + r)) (cellS S r)) (r0 : 0 ≤ r) (r1 : r < 99) (r2 : S (150 + r) = 1) {late : Int} {tb : Nat} : ∀ (n : Nat) (k : Int) (H : AH) (xs : List Vi), VI S H0 H xs → 0 ≤ k → k + n = S 1 → xs.length + n < 50000 →
    ∃ H2, G2 (d + 6) 4013 86 [.ref a, .ref (ra r), .int (zI late), .ref H0.1, .ref tb, .int (zI k)] [] H = G2 (d + 6) 4013 148 [.ref a, .ref (ra r), .int (zI late), .ref H0.1, .ref tb, .int (zI 0)] [] H2 ∧ VI S H0 H2 (xs ++ rwF 2 r (kyP S r) n k) := by
  intro n
  have hS' := hS
  obtain ⟨ln, qt, qk, qr, qc, m, hTs, hKs, hRs, hCs⟩ := hS
  have N0 := W.n0
  induction n with
  | zero =>
    intro k H xs hV k0 hk hl
    have hF1 := hF.f0 hV.1
    have hQ1 := hQ.fr hV.1
    have m' := hF1.m m
    have ksz := hKs.size hF1
    obtain ⟨ins, on, ar, v1, v2, v3, cap, mc, l, h1, -⟩ := hQ1
    refine ⟨H, ?_, by rw [rwF, List.append_nil]; exact hV⟩
    rw [F4013_86]
    simp (disch := first | assumption | omega | decide | exact okF_i | exact okF_r | exact okF_n | exact okF_j | rfl) only [jc_ref, rI_int, rR_ref, rR_null, rJ_long, ckR_ref, ckR_null, ckr_ref, ckr_null, ckW_int, ckW_ref, ckW_null, cI_ok, cR_ok, cR_null, cV_ok, cJ_ok, qH_eq, qD_in, aG_ref, aS_ref, aL_ref, pF_ref, cK_ref, cK_null, zI_lit, zJ_lit, zI_add, zI_sub, zI_mul, zI_neg, zI_eq, zI_lt, zI_le, Int.reduceLT, Int.reduceLE, Int.reduceAdd, Int.reduceSub, Int.reduceMul, Int.reduceNeg, Int.reduceEq, Int.reduceNe, reduceIte, jf_in, pFc_in, aGi, aGb, aSi, aLc_in, cKc_in, nA_in, jm_s1, jm_s2, jm_p1, jm_p2, jm_b, jn_b, jn_s, jn_p, jset_jset, jset_jpush2, ckR_is, ckr_is, rR_is, ckW_is, cR_is, obi2, ckW_int, eq_self, if_true, ref_null, if_false, ne_eq, not_true_eq_false, not_false_eq_true, decide_true, decide_false, decide_not, Bool.true_and, Bool.false_and, Bool.and_true, Bool.and_false, Bool.true_or, Bool.false_or, Bool.or_true, Bool.or_false, Bool.not_true, Bool.not_false, Bool.false_eq_true, bI_t, bI_f, Int.natCast_one, Int.cast_ofNat_Int, Int.natCast_zero, o23_0, o23_1, o23_2, o12_0, o12_1, o13_0, o13_1, o13_2, o13_3, o13_4, o13_5, o13_6, o14_0, o14_1, o14_2, o14_3, o14_4, o14_5, o3_0, o3_1, o3_2, o3_3, o3_4, o11_0, o11_1, o11_2, o11_3, o4_0, o4_1, o4_2, o4_3, o4_4, o4_5, o4_6, o24_0, o24_1, o24_2, o24_3, n24, o24s_0, o24s_1, o24s_2, o24s_3, m', h1, ksz]
    rw [if_pos (by omega)]
  | succ n ih =>
    intro k H xs hV k0 hk hl
    have hF1 := hF.f0 hV.1
    have hQ1 := hQ.fr hV.1
    have m' := hF1.m m
    have ksz := hKs.size hF1
    obtain ⟨kb, hkb, g2⟩ := hKs.get hF1 k0 (show k < S 1 by omega)
    have tw := c_twice (d := d + 4) W hF1 hQ1 r0 r1 r2 hkb k0 (by omega)
    obtain ⟨ke, w1, w2⟩ := id hkb
    have w1' := hF1.m w1
    obtain ⟨ins, on, ar, v1, v2, v3, cap, mc, l, h1, -⟩ := hQ1
    have e : rwF 2 r (kyP S r) (n + 1) k = if kyP S r k = true then (2, k, r) :: rwF 2 r (kyP S r) n (k + 1) else rwF 2 r (kyP S r) n (k + 1) := rfl
    have e2 : (decide (S (249 + r) = S (40 + k)) && earlS S r k) = kyP S r k := rfl
    rw [e2] at tw
    rw [e]
    cases q2 : kyP S r k with
    | true =>
      obtain ⟨H2, a1, a2, a3⟩ := vi_add (d := d + 2) (k := 2) (n := k) hF hV hb (by omega)
      obtain ⟨H3, i1, i2⟩ := ih (k + 1) H2 _ a3 (by omega) (by omega) (by rw [List.length_append]; simp only [List.length_singleton]; omega)
      rw [q2] at tw
      refine ⟨H3, ?_, by rw [if_pos rfl]; rw [List.append_assoc] at i2; exact i2⟩
      rw [F4013_86]
      simp (disch := first | assumption | omega | decide | exact okF_i | exact okF_r | exact okF_n | exact okF_j | rfl) only [jc_ref, rI_int, rR_ref, rR_null, rJ_long, ckR_ref, ckR_null, ckr_ref, ckr_null, ckW_int, ckW_ref, ckW_null, cI_ok, cR_ok, cR_null, cV_ok, cJ_ok, qH_eq, qD_in, aG_ref, aS_ref, aL_ref, pF_ref, cK_ref, cK_null, zI_lit, zJ_lit, zI_add, zI_sub, zI_mul, zI_neg, zI_eq, zI_lt, zI_le, Int.reduceLT, Int.reduceLE, Int.reduceAdd, Int.reduceSub, Int.reduceMul, Int.reduceNeg, Int.reduceEq, Int.reduceNe, reduceIte, jf_in, pFc_in, aGi, aGb, aSi, aLc_in, cKc_in, nA_in, jm_s1, jm_s2, jm_p1, jm_p2, jm_b, jn_b, jn_s, jn_p, jset_jset, jset_jpush2, ckR_is, ckr_is, rR_is, ckW_is, cR_is, obi2, ckW_int, eq_self, if_true, ref_null, if_false, ne_eq, not_true_eq_false, not_false_eq_true, decide_true, decide_false, decide_not, Bool.true_and, Bool.false_and, Bool.and_true, Bool.and_false, Bool.true_or, Bool.false_or, Bool.or_true, Bool.or_false, Bool.not_true, Bool.not_false, Bool.false_eq_true, bI_t, bI_f, Int.natCast_one, Int.cast_ofNat_Int, Int.natCast_zero, o23_0, o23_1, o23_2, o12_0, o12_1, o13_0, o13_1, o13_2, o13_3, o13_4, o13_5, o13_6, o14_0, o14_1, o14_2, o14_3, o14_4, o14_5, o3_0, o3_1, o3_2, o3_3, o3_4, o11_0, o11_1, o11_2, o11_3, o4_0, o4_1, o4_2, o4_3, o4_4, o4_5, o4_6, o24_0, o24_1, o24_2, o24_3, n24, o24s_0, o24s_1, o24s_2, o24s_3, m', h1, ksz, g2, w1', tw, a1, a2]
      rw [if_neg (by omega)]
      exact i1
    | false =>
      obtain ⟨H3, i1, i2⟩ := ih (k + 1) H xs hV (by omega) (by omega) (by omega)
      rw [q2] at tw
      refine ⟨H3, ?_, by rw [if_neg (by decide)]; exact i2⟩
      rw [F4013_86]
      simp (disch := first | assumption | omega | decide | exact okF_i | exact okF_r | exact okF_n | exact okF_j | rfl) only [jc_ref, rI_int, rR_ref, rR_null, rJ_long, ckR_ref, ckR_null, ckr_ref, ckr_null, ckW_int, ckW_ref, ckW_null, cI_ok, cR_ok, cR_null, cV_ok, cJ_ok, qH_eq, qD_in, aG_ref, aS_ref, aL_ref, pF_ref, cK_ref, cK_null, zI_lit, zJ_lit, zI_add, zI_sub, zI_mul, zI_neg, zI_eq, zI_lt, zI_le, Int.reduceLT, Int.reduceLE, Int.reduceAdd, Int.reduceSub, Int.reduceMul, Int.reduceNeg, Int.reduceEq, Int.reduceNe, reduceIte, jf_in, pFc_in, aGi, aGb, aSi, aLc_in, cKc_in, nA_in, jm_s1, jm_s2, jm_p1, jm_p2, jm_b, jn_b, jn_s, jn_p, jset_jset, jset_jpush2, ckR_is, ckr_is, rR_is, ckW_is, cR_is, obi2, ckW_int, eq_self, if_true, ref_null, if_false, ne_eq, not_true_eq_false, not_false_eq_true, decide_true, decide_false, decide_not, Bool.true_and, Bool.false_and, Bool.and_true, Bool.and_false, Bool.true_or, Bool.false_or, Bool.or_true, Bool.or_false, Bool.not_true, Bool.not_false, Bool.false_eq_true, bI_t, bI_f, Int.natCast_one, Int.cast_ofNat_Int, Int.natCast_zero, o23_0, o23_1, o23_2, o12_0, o12_1, o13_0, o13_1, o13_2, o13_3, o13_4, o13_5, o13_6, o14_0, o14_1, o14_2, o14_3, o14_4, o14_5, o3_0, o3_1, o3_2, o3_3, o3_4, o11_0, o11_1, o11_2, o11_3, o4_0, o4_1, o4_2, o4_3, o4_4, o4_5, o4_6, o24_0, o24_1, o24_2, o24_3, n24, o24s_0, o24s_1, o24s_2, o24s_3, m', h1, ksz, g2, w1', tw]
      rw [if_neg (by omega)]
      exact i1
theorem vr_rf (W : StW S) (hF : Fzn F H0) (hS : SchF F q S nm) (hQ : StoQ F H0 a q S ra) (hb : RowF F b r (S (249 + r)) (cellS S r)) (r0 : 0 ≤ r) (r1 : r < 99) {late : Bool} {tb : Nat} : ∀ (n : Nat) (k : Int) (H : AH) (xs : List Vi), VI S H0 H xs → 0 ≤ k → k + n = S 2 → xs.length + n < 50000 →
    ∃ H2, G2 (d + 6) 4013 148 [.ref a, .ref b, .int (zI (bZ late)), .ref H0.1, .ref tb, .int (zI k)] [] H = G2 (d + 6) 4013 235 [.ref a, .ref b, .int (zI (bZ late)), .ref H0.1, .ref tb, .int (zI 0)] [] H2 ∧ VI S H0 H2 (xs ++ rwF 3 r (rfQ S late r) n k) := by
  intro n
  have hS' := hS
  obtain ⟨ln, qt, qk, qr, qc, m, hTs, hKs, hRs, hCs⟩ := hS
  have N0 := W.n0
  induction n with
  | zero =>
    intro k H xs hV k0 hk hl
    have hF1 := hF.f0 hV.1
    have hQ1 := hQ.fr hV.1
    have m' := hF1.m m
    have ksz := hRs.size hF1
    obtain ⟨ins, on, ar, v1, v2, v3, cap, mc, l, h1, -⟩ := hQ1
    refine ⟨H, ?_, by rw [rwF, List.append_nil]; exact hV⟩
    rw [F4013_148]
    simp (disch := first | assumption | omega | decide | exact okF_i | exact okF_r | exact okF_n | exact okF_j | rfl) only [jc_ref, rI_int, rR_ref, rR_null, rJ_long, ckR_ref, ckR_null, ckr_ref, ckr_null, ckW_int, ckW_ref, ckW_null, cI_ok, cR_ok, cR_null, cV_ok, cJ_ok, qH_eq, qD_in, aG_ref, aS_ref, aL_ref, pF_ref, cK_ref, cK_null, zI_lit, zJ_lit, zI_add, zI_sub, zI_mul, zI_neg, zI_eq, zI_lt, zI_le, Int.reduceLT, Int.reduceLE, Int.reduceAdd, Int.reduceSub, Int.reduceMul, Int.reduceNeg, Int.reduceEq, Int.reduceNe, reduceIte, jf_in, pFc_in, aGi, aGb, aSi, aLc_in, cKc_in, nA_in, jm_s1, jm_s2, jm_p1, jm_p2, jm_b, jn_b, jn_s, jn_p, jset_jset, jset_jpush2, ckR_is, ckr_is, rR_is, ckW_is, cR_is, obi2, ckW_int, eq_self, if_true, ref_null, if_false, ne_eq, not_true_eq_false, not_false_eq_true, decide_true, decide_false, decide_not, Bool.true_and, Bool.false_and, Bool.and_true, Bool.and_false, Bool.true_or, Bool.false_or, Bool.or_true, Bool.or_false, Bool.not_true, Bool.not_false, Bool.false_eq_true, bI_t, bI_f, Int.natCast_one, Int.cast_ofNat_Int, Int.natCast_zero, o23_0, o23_1, o23_2, o12_0, o12_1, o13_0, o13_1, o13_2, o13_3, o13_4, o13_5, o13_6, o14_0, o14_1, o14_2, o14_3, o14_4, o14_5, o3_0, o3_1, o3_2, o3_3, o3_4, o11_0, o11_1, o11_2, o11_3, o4_0, o4_1, o4_2, o4_3, o4_4, o4_5, o4_6, o24_0, o24_1, o24_2, o24_3, n24, o24s_0, o24s_1, o24s_2, o24s_3, m', h1, ksz]
    rw [if_pos (by omega)]
  | succ n ih =>
    intro k H xs hV k0 hk hl
    have hF1 := hF.f0 hV.1
    have hQ1 := hQ.fr hV.1
    have m' := hF1.m m
    have ksz := hRs.size hF1
    obtain ⟨fb, hfb, g2⟩ := hRs.get hF1 k0 (show k < S 2 by omega)
    have br := c_broken (d := d + 2) W hF1 hS' hQ1 r0 r1 hb hfb k0 (by omega)
    obtain ⟨ke, w1, w2⟩ := id hfb
    have w1' := hF1.m w1
    have LL := (W.1.2.2.2.1 k k0 (by omega)).2.2.2.2.2.2.2.2
    obtain ⟨ins, on, ar, v1, v2, v3, cap, mc, l, h1, -⟩ := hQ1
    have e : rwF 3 r (rfQ S late r) (n + 1) k = if rfQ S late r k = true then (3, k, r) :: rwF 3 r (rfQ S late r) n (k + 1) else rwF 3 r (rfQ S late r) n (k + 1) := rfl
    have st : G2 (d + 6) 4013 148 [.ref a, .ref b, .int (zI (bZ late)), .ref H0.1, .ref tb, .int (zI k)] [] H = if (late || !decide (S (106 + k) = 1)) = true then G2 (d + 6) 4013 188 [.ref a, .ref b, .int (zI (bZ late)), .ref H0.1, .ref tb, .int (zI k)] [] H else G2 (d + 6) 4013 148 [.ref a, .ref b, .int (zI (bZ late)), .ref H0.1, .ref tb, .int (zI (k + 1))] [] H := by
      conv => lhs; rw [F4013_148]
      cases late with
      | true =>
        rw [if_pos (Bool.true_or _)]
        simp (disch := first | assumption | omega | decide | exact okF_i | exact okF_r | exact okF_n | exact okF_j | rfl) only [jc_ref, rI_int, rR_ref, rR_null, rJ_long, ckR_ref, ckR_null, ckr_ref, ckr_null, ckW_int, ckW_ref, ckW_null, cI_ok, cR_ok, cR_null, cV_ok, cJ_ok, qH_eq, qD_in, aG_ref, aS_ref, aL_ref, pF_ref, cK_ref, cK_null, zI_lit, zJ_lit, zI_add, zI_sub, zI_mul, zI_neg, zI_eq, zI_lt, zI_le, Int.reduceLT, Int.reduceLE, Int.reduceAdd, Int.reduceSub, Int.reduceMul, Int.reduceNeg, Int.reduceEq, Int.reduceNe, reduceIte, jf_in, pFc_in, aGi, aGb, aSi, aLc_in, cKc_in, nA_in, jm_s1, jm_s2, jm_p1, jm_p2, jm_b, jn_b, jn_s, jn_p, jset_jset, jset_jpush2, ckR_is, ckr_is, rR_is, ckW_is, cR_is, obi2, ckW_int, eq_self, if_true, ref_null, if_false, ne_eq, not_true_eq_false, not_false_eq_true, decide_true, decide_false, decide_not, Bool.true_and, Bool.false_and, Bool.and_true, Bool.and_false, Bool.true_or, Bool.false_or, Bool.or_true, Bool.or_false, Bool.not_true, Bool.not_false, Bool.false_eq_true, bI_t, bI_f, Int.natCast_one, Int.cast_ofNat_Int, Int.natCast_zero, o23_0, o23_1, o23_2, o12_0, o12_1, o13_0, o13_1, o13_2, o13_3, o13_4, o13_5, o13_6, o14_0, o14_1, o14_2, o14_3, o14_4, o14_5, o3_0, o3_1, o3_2, o3_3, o3_4, o11_0, o11_1, o11_2, o11_3, o4_0, o4_1, o4_2, o4_3, o4_4, o4_5, o4_6, o24_0, o24_1, o24_2, o24_3, n24, o24s_0, o24s_1, o24s_2, o24s_3, m', h1, ksz, bZ_t]
        rw [if_neg (by omega)]
      | false =>
        rw [Bool.false_or]
        simp (disch := first | assumption | omega | decide | exact okF_i | exact okF_r | exact okF_n | exact okF_j | rfl) only [jc_ref, rI_int, rR_ref, rR_null, rJ_long, ckR_ref, ckR_null, ckr_ref, ckr_null, ckW_int, ckW_ref, ckW_null, cI_ok, cR_ok, cR_null, cV_ok, cJ_ok, qH_eq, qD_in, aG_ref, aS_ref, aL_ref, pF_ref, cK_ref, cK_null, zI_lit, zJ_lit, zI_add, zI_sub, zI_mul, zI_neg, zI_eq, zI_lt, zI_le, Int.reduceLT, Int.reduceLE, Int.reduceAdd, Int.reduceSub, Int.reduceMul, Int.reduceNeg, Int.reduceEq, Int.reduceNe, reduceIte, jf_in, pFc_in, aGi, aGb, aSi, aLc_in, cKc_in, nA_in, jm_s1, jm_s2, jm_p1, jm_p2, jm_b, jn_b, jn_s, jn_p, jset_jset, jset_jpush2, ckR_is, ckr_is, rR_is, ckW_is, cR_is, obi2, ckW_int, eq_self, if_true, ref_null, if_false, ne_eq, not_true_eq_false, not_false_eq_true, decide_true, decide_false, decide_not, Bool.true_and, Bool.false_and, Bool.and_true, Bool.and_false, Bool.true_or, Bool.false_or, Bool.or_true, Bool.or_false, Bool.not_true, Bool.not_false, Bool.false_eq_true, bI_t, bI_f, Int.natCast_one, Int.cast_ofNat_Int, Int.natCast_zero, o23_0, o23_1, o23_2, o12_0, o12_1, o13_0, o13_1, o13_2, o13_3, o13_4, o13_5, o13_6, o14_0, o14_1, o14_2, o14_3, o14_4, o14_5, o3_0, o3_1, o3_2, o3_3, o3_4, o11_0, o11_1, o11_2, o11_3, o4_0, o4_1, o4_2, o4_3, o4_4, o4_5, o4_6, o24_0, o24_1, o24_2, o24_3, n24, o24s_0, o24s_1, o24s_2, o24s_3, m', h1, ksz, bZ_f, g2, w1']
        rw [if_neg (by omega)]
        by_cases hl1 : S (106 + k) = 1
        · rw [if_neg (by omega), if_neg (by simp [hl1])]
        · rw [if_pos (by omega), if_pos (by simp [hl1])]
    rw [st, e]
    by_cases hla : (late || !decide (S (106 + k) = 1)) = true
    · have e2 : rfQ S late r k = (decide (S (249 + r) = S (58 + k)) && badRefS S r k) := by unfold rfQ; rw [hla, Bool.true_and]
      rw [← e2] at br
      rw [if_pos hla]
      cases q2 : rfQ S late r k with
      | true =>
        obtain ⟨H2, a1, a2, a3⟩ := vi_add (d := d + 2) (k := 3) (n := k) hF hV hb (by omega)
        obtain ⟨H3, i1, i2⟩ := ih (k + 1) H2 _ a3 (by omega) (by omega) (by rw [List.length_append]; simp only [List.length_singleton]; omega)
        rw [q2] at br
        refine ⟨H3, ?_, by rw [if_pos rfl]; rw [List.append_assoc] at i2; exact i2⟩
        rw [F4013_188]
        simp (disch := first | assumption | omega | decide | exact okF_i | exact okF_r | exact okF_n | exact okF_j | rfl) only [jc_ref, rI_int, rR_ref, rR_null, rJ_long, ckR_ref, ckR_null, ckr_ref, ckr_null, ckW_int, ckW_ref, ckW_null, cI_ok, cR_ok, cR_null, cV_ok, cJ_ok, qH_eq, qD_in, aG_ref, aS_ref, aL_ref, pF_ref, cK_ref, cK_null, zI_lit, zJ_lit, zI_add, zI_sub, zI_mul, zI_neg, zI_eq, zI_lt, zI_le, Int.reduceLT, Int.reduceLE, Int.reduceAdd, Int.reduceSub, Int.reduceMul, Int.reduceNeg, Int.reduceEq, Int.reduceNe, reduceIte, jf_in, pFc_in, aGi, aGb, aSi, aLc_in, cKc_in, nA_in, jm_s1, jm_s2, jm_p1, jm_p2, jm_b, jn_b, jn_s, jn_p, jset_jset, jset_jpush2, ckR_is, ckr_is, rR_is, ckW_is, cR_is, obi2, ckW_int, eq_self, if_true, ref_null, if_false, ne_eq, not_true_eq_false, not_false_eq_true, decide_true, decide_false, decide_not, Bool.true_and, Bool.false_and, Bool.and_true, Bool.and_false, Bool.true_or, Bool.false_or, Bool.or_true, Bool.or_false, Bool.not_true, Bool.not_false, Bool.false_eq_true, bI_t, bI_f, Int.natCast_one, Int.cast_ofNat_Int, Int.natCast_zero, o23_0, o23_1, o23_2, o12_0, o12_1, o13_0, o13_1, o13_2, o13_3, o13_4, o13_5, o13_6, o14_0, o14_1, o14_2, o14_3, o14_4, o14_5, o3_0, o3_1, o3_2, o3_3, o3_4, o11_0, o11_1, o11_2, o11_3, o4_0, o4_1, o4_2, o4_3, o4_4, o4_5, o4_6, o24_0, o24_1, o24_2, o24_3, n24, o24s_0, o24s_1, o24s_2, o24s_3, m', h1, ksz, g2, w1', br, a1, a2]
        exact i1
      | false =>
        obtain ⟨H3, i1, i2⟩ := ih (k + 1) H xs hV (by omega) (by omega) (by omega)
        rw [q2] at br
        refine ⟨H3, ?_, by rw [if_neg (by decide)]; exact i2⟩
        rw [F4013_188]
        simp (disch := first | assumption | omega | decide | exact okF_i | exact okF_r | exact okF_n | exact okF_j | rfl) only [jc_ref, rI_int, rR_ref, rR_null, rJ_long, ckR_ref, ckR_null, ckr_ref, ckr_null, ckW_int, ckW_ref, ckW_null, cI_ok, cR_ok, cR_null, cV_ok, cJ_ok, qH_eq, qD_in, aG_ref, aS_ref, aL_ref, pF_ref, cK_ref, cK_null, zI_lit, zJ_lit, zI_add, zI_sub, zI_mul, zI_neg, zI_eq, zI_lt, zI_le, Int.reduceLT, Int.reduceLE, Int.reduceAdd, Int.reduceSub, Int.reduceMul, Int.reduceNeg, Int.reduceEq, Int.reduceNe, reduceIte, jf_in, pFc_in, aGi, aGb, aSi, aLc_in, cKc_in, nA_in, jm_s1, jm_s2, jm_p1, jm_p2, jm_b, jn_b, jn_s, jn_p, jset_jset, jset_jpush2, ckR_is, ckr_is, rR_is, ckW_is, cR_is, obi2, ckW_int, eq_self, if_true, ref_null, if_false, ne_eq, not_true_eq_false, not_false_eq_true, decide_true, decide_false, decide_not, Bool.true_and, Bool.false_and, Bool.and_true, Bool.and_false, Bool.true_or, Bool.false_or, Bool.or_true, Bool.or_false, Bool.not_true, Bool.not_false, Bool.false_eq_true, bI_t, bI_f, Int.natCast_one, Int.cast_ofNat_Int, Int.natCast_zero, o23_0, o23_1, o23_2, o12_0, o12_1, o13_0, o13_1, o13_2, o13_3, o13_4, o13_5, o13_6, o14_0, o14_1, o14_2, o14_3, o14_4, o14_5, o3_0, o3_1, o3_2, o3_3, o3_4, o11_0, o11_1, o11_2, o11_3, o4_0, o4_1, o4_2, o4_3, o4_4, o4_5, o4_6, o24_0, o24_1, o24_2, o24_3, n24, o24s_0, o24s_1, o24s_2, o24s_3, m', h1, ksz, g2, w1', br]
        exact i1
    · have e2 : rfQ S late r k = false := by unfold rfQ; rw [Bool.eq_false_iff.mpr hla, Bool.false_and]
      obtain ⟨H3, i1, i2⟩ := ih (k + 1) H xs hV (by omega) (by omega) (by omega)
      rw [if_neg hla, e2]
      exact ⟨H3, i1, by rw [if_neg (by decide)]; exact i2⟩
theorem vr_ck (W : StW S) (hF : Fzn F H0) (hS : SchF F q S nm) (hQ : StoQ F H0 a q S ra) (hb : RowF F b r (S (249 + r)) (cellS S r)) (r0 : 0 ≤ r) (r1 : r < 99) {late : Bool} {tb : Nat} : ∀ (n : Nat) (k : Int) (H : AH) (xs : List Vi), VI S H0 H xs → 0 ≤ k → k + n = S 3 → xs.length + n < 50000 →
    ∃ H2, G2 (d + 6) 4013 235 [.ref a, .ref b, .int (zI (bZ late)), .ref H0.1, .ref tb, .int (zI k)] [] H = some (.inl none, H2) ∧ VI S H0 H2 (xs ++ rwF 4 r (ckP S late r) n k) := by
  intro n
  have hS' := hS
  obtain ⟨ln, qt, qk, qr, qc, m, hTs, hKs, hRs, hCs⟩ := hS
  have N0 := W.n0
  induction n with
  | zero =>
    intro k H xs hV k0 hk hl
    have hF1 := hF.f0 hV.1
    have hQ1 := hQ.fr hV.1
    have m' := hF1.m m
    have ksz := hCs.size hF1
    obtain ⟨ins, on, ar, v1, v2, v3, cap, mc, l, h1, -⟩ := hQ1
    refine ⟨H, ?_, by rw [rwF, List.append_nil]; exact hV⟩
    rw [F4013_235]
    simp (disch := first | assumption | omega | decide | exact okF_i | exact okF_r | exact okF_n | exact okF_j | rfl) only [jc_ref, rI_int, rR_ref, rR_null, rJ_long, ckR_ref, ckR_null, ckr_ref, ckr_null, ckW_int, ckW_ref, ckW_null, cI_ok, cR_ok, cR_null, cV_ok, cJ_ok, qH_eq, qD_in, aG_ref, aS_ref, aL_ref, pF_ref, cK_ref, cK_null, zI_lit, zJ_lit, zI_add, zI_sub, zI_mul, zI_neg, zI_eq, zI_lt, zI_le, Int.reduceLT, Int.reduceLE, Int.reduceAdd, Int.reduceSub, Int.reduceMul, Int.reduceNeg, Int.reduceEq, Int.reduceNe, reduceIte, jf_in, pFc_in, aGi, aGb, aSi, aLc_in, cKc_in, nA_in, jm_s1, jm_s2, jm_p1, jm_p2, jm_b, jn_b, jn_s, jn_p, jset_jset, jset_jpush2, ckR_is, ckr_is, rR_is, ckW_is, cR_is, obi2, ckW_int, eq_self, if_true, ref_null, if_false, ne_eq, not_true_eq_false, not_false_eq_true, decide_true, decide_false, decide_not, Bool.true_and, Bool.false_and, Bool.and_true, Bool.and_false, Bool.true_or, Bool.false_or, Bool.or_true, Bool.or_false, Bool.not_true, Bool.not_false, Bool.false_eq_true, bI_t, bI_f, Int.natCast_one, Int.cast_ofNat_Int, Int.natCast_zero, o23_0, o23_1, o23_2, o12_0, o12_1, o13_0, o13_1, o13_2, o13_3, o13_4, o13_5, o13_6, o14_0, o14_1, o14_2, o14_3, o14_4, o14_5, o3_0, o3_1, o3_2, o3_3, o3_4, o11_0, o11_1, o11_2, o11_3, o4_0, o4_1, o4_2, o4_3, o4_4, o4_5, o4_6, o24_0, o24_1, o24_2, o24_3, n24, o24s_0, o24s_1, o24s_2, o24s_3, m', h1, ksz]
    rw [if_pos (by omega)]
  | succ n ih =>
    intro k H xs hV k0 hk hl
    have hF1 := hF.f0 hV.1
    have hQ1 := hQ.fr hV.1
    have m' := hF1.m m
    have ksz := hCs.size hF1
    obtain ⟨fb, hfb, g2⟩ := hCs.get hF1 k0 (show k < S 3 by omega)
    obtain ⟨K1, K2, K3, K4, K5, K6⟩ := W.chk k0 (show k < S 3 by omega)
    have TA := W.ta r0 r1
    have ck := c_chk (d := d + 4) hF1 hb hfb (W.csw r0 r1) K2.1 K2.2 K4.1 K4.2 K5.1 K5.2 ⟨by omega, by omega⟩
    have w1' := hF1.m hfb
    obtain ⟨be, bg, b1, b2, b3⟩ := id hb
    have b1' := hF1.m b1
    have LL := (W.1.2.2.2.2.1 k k0 (by omega)).2.2.2.2.2
    obtain ⟨ins, on, ar, v1, v2, v3, cap, mc, l, h1, -⟩ := hQ1
    have e : rwF 4 r (ckP S late r) (n + 1) k = if ckP S late r k = true then (4, k, r) :: rwF 4 r (ckP S late r) n (k + 1) else rwF 4 r (ckP S late r) n (k + 1) := rfl
    have st : G2 (d + 6) 4013 235 [.ref a, .ref b, .int (zI (bZ late)), .ref H0.1, .ref tb, .int (zI k)] [] H = if (late || !decide (S (142 + k) = 1)) = true then G2 (d + 6) 4013 275 [.ref a, .ref b, .int (zI (bZ late)), .ref H0.1, .ref tb, .int (zI k)] [] H else G2 (d + 6) 4013 235 [.ref a, .ref b, .int (zI (bZ late)), .ref H0.1, .ref tb, .int (zI (k + 1))] [] H := by
      conv => lhs; rw [F4013_235]
      cases late with
      | true =>
        rw [if_pos (Bool.true_or _)]
        simp (disch := first | assumption | omega | decide | exact okF_i | exact okF_r | exact okF_n | exact okF_j | rfl) only [jc_ref, rI_int, rR_ref, rR_null, rJ_long, ckR_ref, ckR_null, ckr_ref, ckr_null, ckW_int, ckW_ref, ckW_null, cI_ok, cR_ok, cR_null, cV_ok, cJ_ok, qH_eq, qD_in, aG_ref, aS_ref, aL_ref, pF_ref, cK_ref, cK_null, zI_lit, zJ_lit, zI_add, zI_sub, zI_mul, zI_neg, zI_eq, zI_lt, zI_le, Int.reduceLT, Int.reduceLE, Int.reduceAdd, Int.reduceSub, Int.reduceMul, Int.reduceNeg, Int.reduceEq, Int.reduceNe, reduceIte, jf_in, pFc_in, aGi, aGb, aSi, aLc_in, cKc_in, nA_in, jm_s1, jm_s2, jm_p1, jm_p2, jm_b, jn_b, jn_s, jn_p, jset_jset, jset_jpush2, ckR_is, ckr_is, rR_is, ckW_is, cR_is, obi2, ckW_int, eq_self, if_true, ref_null, if_false, ne_eq, not_true_eq_false, not_false_eq_true, decide_true, decide_false, decide_not, Bool.true_and, Bool.false_and, Bool.and_true, Bool.and_false, Bool.true_or, Bool.false_or, Bool.or_true, Bool.or_false, Bool.not_true, Bool.not_false, Bool.false_eq_true, bI_t, bI_f, Int.natCast_one, Int.cast_ofNat_Int, Int.natCast_zero, o23_0, o23_1, o23_2, o12_0, o12_1, o13_0, o13_1, o13_2, o13_3, o13_4, o13_5, o13_6, o14_0, o14_1, o14_2, o14_3, o14_4, o14_5, o3_0, o3_1, o3_2, o3_3, o3_4, o11_0, o11_1, o11_2, o11_3, o4_0, o4_1, o4_2, o4_3, o4_4, o4_5, o4_6, o24_0, o24_1, o24_2, o24_3, n24, o24s_0, o24s_1, o24s_2, o24s_3, m', h1, ksz, bZ_t]
        rw [if_neg (by omega)]
      | false =>
        rw [Bool.false_or]
        simp (disch := first | assumption | omega | decide | exact okF_i | exact okF_r | exact okF_n | exact okF_j | rfl) only [jc_ref, rI_int, rR_ref, rR_null, rJ_long, ckR_ref, ckR_null, ckr_ref, ckr_null, ckW_int, ckW_ref, ckW_null, cI_ok, cR_ok, cR_null, cV_ok, cJ_ok, qH_eq, qD_in, aG_ref, aS_ref, aL_ref, pF_ref, cK_ref, cK_null, zI_lit, zJ_lit, zI_add, zI_sub, zI_mul, zI_neg, zI_eq, zI_lt, zI_le, Int.reduceLT, Int.reduceLE, Int.reduceAdd, Int.reduceSub, Int.reduceMul, Int.reduceNeg, Int.reduceEq, Int.reduceNe, reduceIte, jf_in, pFc_in, aGi, aGb, aSi, aLc_in, cKc_in, nA_in, jm_s1, jm_s2, jm_p1, jm_p2, jm_b, jn_b, jn_s, jn_p, jset_jset, jset_jpush2, ckR_is, ckr_is, rR_is, ckW_is, cR_is, obi2, ckW_int, eq_self, if_true, ref_null, if_false, ne_eq, not_true_eq_false, not_false_eq_true, decide_true, decide_false, decide_not, Bool.true_and, Bool.false_and, Bool.and_true, Bool.and_false, Bool.true_or, Bool.false_or, Bool.or_true, Bool.or_false, Bool.not_true, Bool.not_false, Bool.false_eq_true, bI_t, bI_f, Int.natCast_one, Int.cast_ofNat_Int, Int.natCast_zero, o23_0, o23_1, o23_2, o12_0, o12_1, o13_0, o13_1, o13_2, o13_3, o13_4, o13_5, o13_6, o14_0, o14_1, o14_2, o14_3, o14_4, o14_5, o3_0, o3_1, o3_2, o3_3, o3_4, o11_0, o11_1, o11_2, o11_3, o4_0, o4_1, o4_2, o4_3, o4_4, o4_5, o4_6, o24_0, o24_1, o24_2, o24_3, n24, o24s_0, o24s_1, o24s_2, o24s_3, m', h1, ksz, bZ_f, g2, w1']
        rw [if_neg (by omega)]
        by_cases hl1 : S (142 + k) = 1
        · rw [if_neg (by omega), if_neg (by simp [hl1])]
        · rw [if_pos (by omega), if_pos (by simp [hl1])]
    rw [st, e]
    by_cases hla : (late || !decide (S (142 + k) = 1)) = true
    · have e2 : ckP S late r k = (decide (S (249 + r) = S (112 + k)) && badChkS S r k) := by unfold ckP; rw [hla, Bool.true_and]
      have e3 : (decide (0 ≤ cellS S r (S (118 + k))) && (decide (0 ≤ (if S (136 + k) < 0 then S (130 + k) else cellS S r (S (136 + k)))) && !soZ (S (124 + k)) (cellS S r (S (118 + k))) (if S (136 + k) < 0 then S (130 + k) else cellS S r (S (136 + k))))) = badChkS S r k := rfl
      rw [e3] at ck
      rw [if_pos hla, e2]
      by_cases tt : S (249 + r) = S (112 + k)
      · rw [decide_eq_true tt, Bool.true_and]
        cases q2 : badChkS S r k with
        | true =>
          obtain ⟨H2, a1, a2, a3⟩ := vi_add (d := d + 2) (k := 4) (n := k) hF hV hb (by omega)
          obtain ⟨H3, i1, i2⟩ := ih (k + 1) H2 _ a3 (by omega) (by omega) (by rw [List.length_append]; simp only [List.length_singleton]; omega)
          rw [q2] at ck
          refine ⟨H3, ?_, by rw [if_pos rfl]; rw [List.append_assoc] at i2; exact i2⟩
          rw [F4013_275]
          simp (disch := first | assumption | omega | decide | exact okF_i | exact okF_r | exact okF_n | exact okF_j | rfl) only [jc_ref, rI_int, rR_ref, rR_null, rJ_long, ckR_ref, ckR_null, ckr_ref, ckr_null, ckW_int, ckW_ref, ckW_null, cI_ok, cR_ok, cR_null, cV_ok, cJ_ok, qH_eq, qD_in, aG_ref, aS_ref, aL_ref, pF_ref, cK_ref, cK_null, zI_lit, zJ_lit, zI_add, zI_sub, zI_mul, zI_neg, zI_eq, zI_lt, zI_le, Int.reduceLT, Int.reduceLE, Int.reduceAdd, Int.reduceSub, Int.reduceMul, Int.reduceNeg, Int.reduceEq, Int.reduceNe, reduceIte, jf_in, pFc_in, aGi, aGb, aSi, aLc_in, cKc_in, nA_in, jm_s1, jm_s2, jm_p1, jm_p2, jm_b, jn_b, jn_s, jn_p, jset_jset, jset_jpush2, ckR_is, ckr_is, rR_is, ckW_is, cR_is, obi2, ckW_int, eq_self, if_true, ref_null, if_false, ne_eq, not_true_eq_false, not_false_eq_true, decide_true, decide_false, decide_not, Bool.true_and, Bool.false_and, Bool.and_true, Bool.and_false, Bool.true_or, Bool.false_or, Bool.or_true, Bool.or_false, Bool.not_true, Bool.not_false, Bool.false_eq_true, bI_t, bI_f, Int.natCast_one, Int.cast_ofNat_Int, Int.natCast_zero, o23_0, o23_1, o23_2, o12_0, o12_1, o13_0, o13_1, o13_2, o13_3, o13_4, o13_5, o13_6, o14_0, o14_1, o14_2, o14_3, o14_4, o14_5, o3_0, o3_1, o3_2, o3_3, o3_4, o11_0, o11_1, o11_2, o11_3, o4_0, o4_1, o4_2, o4_3, o4_4, o4_5, o4_6, o24_0, o24_1, o24_2, o24_3, n24, o24s_0, o24s_1, o24s_2, o24s_3, m', h1, ksz, g2, w1', b1', ck, tt, a1, a2]
          rw [tt] at a1 a2
          simp (disch := first | assumption | omega | decide | exact okF_i | exact okF_r | exact okF_n | exact okF_j | rfl) only [jc_ref, rI_int, rR_ref, rR_null, rJ_long, ckR_ref, ckR_null, ckr_ref, ckr_null, ckW_int, ckW_ref, ckW_null, cI_ok, cR_ok, cR_null, cV_ok, cJ_ok, qH_eq, qD_in, aG_ref, aS_ref, aL_ref, pF_ref, cK_ref, cK_null, zI_lit, zJ_lit, zI_add, zI_sub, zI_mul, zI_neg, zI_eq, zI_lt, zI_le, Int.reduceLT, Int.reduceLE, Int.reduceAdd, Int.reduceSub, Int.reduceMul, Int.reduceNeg, Int.reduceEq, Int.reduceNe, reduceIte, jf_in, pFc_in, aGi, aGb, aSi, aLc_in, cKc_in, nA_in, jm_s1, jm_s2, jm_p1, jm_p2, jm_b, jn_b, jn_s, jn_p, jset_jset, jset_jpush2, ckR_is, ckr_is, rR_is, ckW_is, cR_is, obi2, ckW_int, eq_self, if_true, ref_null, if_false, ne_eq, not_true_eq_false, not_false_eq_true, decide_true, decide_false, decide_not, Bool.true_and, Bool.false_and, Bool.and_true, Bool.and_false, Bool.true_or, Bool.false_or, Bool.or_true, Bool.or_false, Bool.not_true, Bool.not_false, Bool.false_eq_true, bI_t, bI_f, Int.natCast_one, Int.cast_ofNat_Int, Int.natCast_zero, o23_0, o23_1, o23_2, o12_0, o12_1, o13_0, o13_1, o13_2, o13_3, o13_4, o13_5, o13_6, o14_0, o14_1, o14_2, o14_3, o14_4, o14_5, o3_0, o3_1, o3_2, o3_3, o3_4, o11_0, o11_1, o11_2, o11_3, o4_0, o4_1, o4_2, o4_3, o4_4, o4_5, o4_6, o24_0, o24_1, o24_2, o24_3, n24, o24s_0, o24s_1, o24s_2, o24s_3, a1, a2]
          exact i1
        | false =>
          obtain ⟨H3, i1, i2⟩ := ih (k + 1) H xs hV (by omega) (by omega) (by omega)
          rw [q2] at ck
          refine ⟨H3, ?_, by rw [if_neg (by decide)]; exact i2⟩
          rw [F4013_275]
          simp (disch := first | assumption | omega | decide | exact okF_i | exact okF_r | exact okF_n | exact okF_j | rfl) only [jc_ref, rI_int, rR_ref, rR_null, rJ_long, ckR_ref, ckR_null, ckr_ref, ckr_null, ckW_int, ckW_ref, ckW_null, cI_ok, cR_ok, cR_null, cV_ok, cJ_ok, qH_eq, qD_in, aG_ref, aS_ref, aL_ref, pF_ref, cK_ref, cK_null, zI_lit, zJ_lit, zI_add, zI_sub, zI_mul, zI_neg, zI_eq, zI_lt, zI_le, Int.reduceLT, Int.reduceLE, Int.reduceAdd, Int.reduceSub, Int.reduceMul, Int.reduceNeg, Int.reduceEq, Int.reduceNe, reduceIte, jf_in, pFc_in, aGi, aGb, aSi, aLc_in, cKc_in, nA_in, jm_s1, jm_s2, jm_p1, jm_p2, jm_b, jn_b, jn_s, jn_p, jset_jset, jset_jpush2, ckR_is, ckr_is, rR_is, ckW_is, cR_is, obi2, ckW_int, eq_self, if_true, ref_null, if_false, ne_eq, not_true_eq_false, not_false_eq_true, decide_true, decide_false, decide_not, Bool.true_and, Bool.false_and, Bool.and_true, Bool.and_false, Bool.true_or, Bool.false_or, Bool.or_true, Bool.or_false, Bool.not_true, Bool.not_false, Bool.false_eq_true, bI_t, bI_f, Int.natCast_one, Int.cast_ofNat_Int, Int.natCast_zero, o23_0, o23_1, o23_2, o12_0, o12_1, o13_0, o13_1, o13_2, o13_3, o13_4, o13_5, o13_6, o14_0, o14_1, o14_2, o14_3, o14_4, o14_5, o3_0, o3_1, o3_2, o3_3, o3_4, o11_0, o11_1, o11_2, o11_3, o4_0, o4_1, o4_2, o4_3, o4_4, o4_5, o4_6, o24_0, o24_1, o24_2, o24_3, n24, o24s_0, o24s_1, o24s_2, o24s_3, m', h1, ksz, g2, w1', b1', ck, tt]
          exact i1
      · obtain ⟨H3, i1, i2⟩ := ih (k + 1) H xs hV (by omega) (by omega) (by omega)
        rw [decide_eq_false tt, Bool.false_and]
        refine ⟨H3, ?_, by rw [if_neg (by decide)]; exact i2⟩
        rw [F4013_275]
        simp (disch := first | assumption | omega | decide | exact okF_i | exact okF_r | exact okF_n | exact okF_j | rfl) only [jc_ref, rI_int, rR_ref, rR_null, rJ_long, ckR_ref, ckR_null, ckr_ref, ckr_null, ckW_int, ckW_ref, ckW_null, cI_ok, cR_ok, cR_null, cV_ok, cJ_ok, qH_eq, qD_in, aG_ref, aS_ref, aL_ref, pF_ref, cK_ref, cK_null, zI_lit, zJ_lit, zI_add, zI_sub, zI_mul, zI_neg, zI_eq, zI_lt, zI_le, Int.reduceLT, Int.reduceLE, Int.reduceAdd, Int.reduceSub, Int.reduceMul, Int.reduceNeg, Int.reduceEq, Int.reduceNe, reduceIte, jf_in, pFc_in, aGi, aGb, aSi, aLc_in, cKc_in, nA_in, jm_s1, jm_s2, jm_p1, jm_p2, jm_b, jn_b, jn_s, jn_p, jset_jset, jset_jpush2, ckR_is, ckr_is, rR_is, ckW_is, cR_is, obi2, ckW_int, eq_self, if_true, ref_null, if_false, ne_eq, not_true_eq_false, not_false_eq_true, decide_true, decide_false, decide_not, Bool.true_and, Bool.false_and, Bool.and_true, Bool.and_false, Bool.true_or, Bool.false_or, Bool.or_true, Bool.or_false, Bool.not_true, Bool.not_false, Bool.false_eq_true, bI_t, bI_f, Int.natCast_one, Int.cast_ofNat_Int, Int.natCast_zero, o23_0, o23_1, o23_2, o12_0, o12_1, o13_0, o13_1, o13_2, o13_3, o13_4, o13_5, o13_6, o14_0, o14_1, o14_2, o14_3, o14_4, o14_5, o3_0, o3_1, o3_2, o3_3, o3_4, o11_0, o11_1, o11_2, o11_3, o4_0, o4_1, o4_2, o4_3, o4_4, o4_5, o4_6, o24_0, o24_1, o24_2, o24_3, n24, o24s_0, o24s_1, o24s_2, o24s_3, m', h1, ksz, g2, w1', b1']
        rw [if_neg (fun z => tt z.symm)]
        exact i1
    · have e2 : ckP S late r k = false := by unfold ckP; rw [Bool.eq_false_iff.mpr hla, Bool.false_and]
      obtain ⟨H3, i1, i2⟩ := ih (k + 1) H xs hV (by omega) (by omega) (by omega)
      rw [if_neg hla, e2]
      exact ⟨H3, i1, by rw [if_neg (by decide)]; exact i2⟩
end
