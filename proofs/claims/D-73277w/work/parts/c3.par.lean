/-! a store's rows; the row to which one refers -/
-- jc_ref, rI_int, rR_ref, rR_null, rJ_long, ckR_ref, ckR_null, ckr_ref, ckr_null, ckW_int, ckW_ref, ckW_null, cI_ok, cR_ok, cR_null, cV_ok, cJ_ok, qH_eq, qD_in, aG_ref, aS_ref, aL_ref, pF_ref, cK_ref, cK_null, zI_lit, zJ_lit, zI_add, zI_sub, zI_mul, zI_neg, zI_eq, zI_lt, zI_le, Int.reduceLT, Int.reduceLE, Int.reduceAdd, Int.reduceSub, Int.reduceMul, Int.reduceNeg, Int.reduceEq, Int.reduceNe, reduceIte, jf_in, pFc_in, aGi, aGb, aSi, aLc_in, cKc_in, nA_in, jm_s1, jm_s2, jm_p1, jm_p2, jm_b, jn_b, jn_s, jn_p, jset_jset, jset_jpush2, ckR_is, ckr_is, rR_is, ckW_is, cR_is, obi2, ckW_int, eq_self, if_true, ref_null, if_false, ne_eq, not_true_eq_false, not_false_eq_true, decide_true, decide_false, decide_not, Bool.true_and, Bool.false_and, Bool.and_true, Bool.and_false, Bool.true_or, Bool.false_or, Bool.or_true, Bool.or_false, Bool.not_true, Bool.not_false, Bool.false_eq_true, bI_t, bI_f, Int.natCast_one, Int.cast_ofNat_Int, Int.natCast_zero, o23_0, o23_1, o23_2, o12_0, o12_1, o13_0, o13_1, o13_2, o13_3, o13_4, o13_5, o13_6, o14_0, o14_1, o14_2, o14_3, o14_4, o14_5, o3_0, o3_1, o3_2, o3_3, o3_4, o11_0, o11_1, o11_2, o11_3, o4_0, o4_1, o4_2, o4_3, o4_4, o4_5, o4_6 = jc_ref, rI_int, rR_ref, rR_null, rJ_long, ckR_ref, ckR_null, ckr_ref, ckr_null, ckW_int, ckW_ref, ckW_null, cI_ok, cR_ok, cR_null, cV_ok, cJ_ok, qH_eq, qD_in, aG_ref, aS_ref, aL_ref, pF_ref, cK_ref, cK_null, zI_lit, zJ_lit, zI_add, zI_sub, zI_mul, zI_neg, zI_eq, zI_lt, zI_le, Int.reduceLT, Int.reduceLE, Int.reduceAdd, Int.reduceSub, Int.reduceMul, Int.reduceNeg, Int.reduceEq, Int.reduceNe, reduceIte, jf_in, pFc_in, aGi, aGb, aSi, aLc_in, cKc_in, nA_in, jm_s1, jm_s2, jm_p1, jm_p2, jm_b, jn_b, jn_s, jn_p, jset_jset, jset_jpush2, ckR_is, ckr_is, rR_is, ckW_is, cR_is, obi2, ckW_int, eq_self, if_true, ref_null, if_false, ne_eq, not_true_eq_false, not_false_eq_true, decide_true, decide_false, decide_not, Bool.true_and, Bool.false_and, Bool.and_true, Bool.and_false, Bool.true_or, Bool.false_or, Bool.or_true, Bool.or_false, Bool.not_true, Bool.not_false, Bool.false_eq_true, bI_t, bI_f, Int.natCast_one, Int.cast_ofNat_Int, Int.natCast_zero, o23_0, o23_1, o23_2, o12_0, o12_1, o13_0, o13_1, o13_2, o13_3, o13_4, o13_5, o13_6, o14_0, o14_1, o14_2, o14_3, o14_4, o14_5, o3_0, o3_1, o3_2, o3_3, o3_4, o11_0, o11_1, o11_2, o11_3, o4_0, o4_1, o4_2, o4_3, o4_4, o4_5, o4_6
/-- rows that are there, by number -/
def alv (S : Int → Int) (at_ : Int) : Nat → Int → List Int
  | 0, _ => []
  | n + 1, k => if S (at_ + k) = 1 then k :: alv S at_ n (k + 1) else alv S at_ n (k + 1)
theorem alv_mem {S : Int → Int} {at_ : Int} : ∀ (n : Nat) (k r : Int), r ∈ alv S at_ n k ↔ (k ≤ r ∧ r < k + n ∧ S (at_ + r) = 1)
  | 0, k, r => by simp [alv]; omega
  | n + 1, k, r => by
    simp only [alv]
    have ih := alv_mem (S := S) (at_ := at_) n (k + 1) r
    by_cases h : S (at_ + k) = 1
    · rw [if_pos h, List.mem_cons, ih]
      constructor
      · rintro (rfl | ⟨a, b, c⟩)
        · exact ⟨Int.le_refl _, by omega, h⟩
        · exact ⟨by omega, by omega, c⟩
      · rintro ⟨a, b, c⟩
        by_cases e : r = k
        · exact Or.inl e
        · exact Or.inr ⟨by omega, by omega, c⟩
    · rw [if_neg h, ih]
      constructor
      · rintro ⟨a, b, c⟩; exact ⟨by omega, by omega, c⟩
      · rintro ⟨a, b, c⟩
        have : r ≠ k := by rintro rfl; exact h c
        exact ⟨by omega, by omega, c⟩
theorem alv_len {S : Int → Int} {at_ : Int} : ∀ (n : Nat) (k : Int), (∀ i, k ≤ i → i < k + n → S (at_ + i) = 0 ∨ S (at_ + i) = 1) → ((alv S at_ n k).length : Int) = cntA S at_ n k
  | 0, _, _ => rfl
  | n + 1, k, h => by
    simp only [alv, cntA]
    have ih := alv_len (S := S) (at_ := at_) n (k + 1) fun i a b => h i (by omega) (by omega)
    have := h k (Int.le_refl _) (by omega)
    by_cases e : S (at_ + k) = 1
    · rw [if_pos e, List.length_cons, e]; omega
    · rw [if_neg e, ih]; omega
theorem fnd_alv {S : Int → Int} {at_ : Int} {P : Int → Bool} : ∀ (n : Nat) (k : Int), fnd (fun q => decide (S (at_ + q) = 1) && P q) n k = ((alv S at_ n k).find? P).getD (-1)
  | 0, _ => rfl
  | n + 1, k => by
    simp only [fnd, alv]
    rw [fnd_alv n (k + 1)]
    by_cases e : S (at_ + k) = 1
    · by_cases hP : P k = true
      · simp [e, hP]
      · simp [e, hP]
    · simp [e]
/-- a list that holds the rows of S -/
def RowsF (F : Nat → Option Cl) (l : List Value) (S : Int → Int) (at_ ct : Int) (ra : Int → Nat) : Prop := l = (alv S at_ 99 0).map (fun r => .ref (ra r)) ∧ ∀ r, 0 ≤ r → r < 99 → S (at_ + r) = 1 → RowF F (ra r) r (S (249 + r)) (fun c => S (ct + 4 * r + c))
theorem RowsF.sub {F G : Nat → Option Cl} {l : List Value} {S : Int → Int} {at_ ct : Int} {ra : Int → Nat} (h : RowsF F l S at_ ct ra) (s : Sub F G) : RowsF G l S at_ ct ra := ⟨h.1, fun r a b c => (h.2 r a b c).sub s⟩
/-- a store, as it is read -/
def StoQ (F : Nat → Option Cl) (H : AH) (a q : Nat) (S : Int → Int) (ra : Int → Nat) : Prop := ∃ (ins on : Int) (ar : Nat) (v1 v2 v3 : Value) (cap : Nat) (mc : Int32) (l : List Value), jm H a = some (4, 7, o4 (.ref q) ins on (.ref ar) v1 v2 v3) ∧ jm H ar = some (cAL cap mc l) ∧ cap < 1000 ∧ RowsF F l S 150 348 ra ∧ a < H.1 ∧ ar < H.1
def prV (ra : Int → Nat) (z : Int) : Value := if z < 0 then .null else .ref (ra z)
section
variable {F : Nat → Option Cl} {d : Nat} {H : AH} {a b e q fb : Nat} {r t c k f : Int} {cs S nm : Int → Int} {ra : Int → Nat}
theorem StW.csw (W : StW S) (r0 : 0 ≤ r) (r1 : r < 99) : CsW (cellS S r) := fun c c0 c1 => W.cell r0 r1 c0 c1
theorem alv_le (W : StW S) : (alv S 150 99 0).length ≤ 40 := by
  have := alv_len (S := S) (at_ := 150) 99 0 fun i a b => W.al a (by omega)
  have h2 := W.2.2.2.2.2.2.1
  omega
/-- a list's element -/
theorem rows_at {l : List Value} (h : RowsF F l S 150 348 ra) {A s : List Int} {x : Int} {n : Nat} (hA : A = alv S 150 99 0) (hs : A.drop n = x :: s) : l.getD n .null = .ref (ra x) ∧ RowF F (ra x) x (S (249 + x)) (cellS S x) ∧ A.drop (n + 1) = s ∧ n < l.length ∧ 0 ≤ x ∧ x < 99 ∧ S (150 + x) = 1 := by
  obtain ⟨h1, h2⟩ := h
  subst hA
  have hn : n < (alv S 150 99 0).length := by
    by_cases hn : n < (alv S 150 99 0).length
    · exact hn
    · rw [List.drop_eq_nil_of_le (by omega)] at hs; cases hs
  rw [List.drop_eq_getElem_cons hn] at hs
  simp only [List.cons.injEq] at hs
  have hx : x ∈ alv S 150 99 0 := hs.1 ▸ List.getElem_mem hn
  obtain ⟨x0, x1, x2⟩ := (alv_mem 99 0 x).mp hx
  refine ⟨?_, h2 x x0 (by omega) x2, hs.2, by rw [h1, List.length_map]; exact hn, x0, by omega, x2⟩
  rw [h1, List.getD_eq_getElem?_getD, List.getElem?_map, List.getElem?_eq_getElem hn, hs.1]
  rfl
theorem rows_len {l : List Value} (h : RowsF F l S 150 348 ra) : l.length = (alv S 150 99 0).length := by rw [h.1, List.length_map]
/-- numbers tell rows apart -/
theorem rows_inj {l : List Value} (h : RowsF F l S 150 348 ra) {x y : Int} (x0 : 0 ≤ x) (x1 : x < 99) (x2 : S (150 + x) = 1) (y0 : 0 ≤ y) (y1 : y < 99) (y2 : S (150 + y) = 1) (e : ra x = ra y) : x = y := by
  obtain ⟨ex, gx, a1, -⟩ := h.2 x x0 x1 x2
  obtain ⟨ey, gy, b1, -⟩ := h.2 y y0 y1 y2
  rw [e, b1] at a1
  simp only [Option.some.injEq, Prod.mk.injEq, true_and] at a1
  have := congrFun a1 0
  simp only [o23_0, Value.int.injEq] at this
  exact (zI_inj this (by omega) (by omega) (by omega) (by omega)).symm
theorem c_keyOf (hF : Fzn F H) (hS : SchF F q S nm) (hf : RefF F fb f S) (k0 : 0 ≤ S (82 + f)) (k1 : S (82 + f) < S 1) : ∃ kb, KeyF F kb (S (82 + f)) S ∧ ∀ d, M2 (d + 2) 3005 [.ref q, .ref fb] H = some (.inl (some (.ref kb)), H) := by
  obtain ⟨ln, qt, qk, qr, qc, x1, x2, x3, x4, x5⟩ := hS
  obtain ⟨fe, y1, y2⟩ := hf
  replace x1 := hF.m x1; replace y1 := hF.m y1
  obtain ⟨kb, z1, z2⟩ := x3.get hF k0 k1
  refine ⟨kb, z1, fun d => ?_⟩
  obtain ⟨ke, w1, w2⟩ := z1
  replace w1 := hF.m w1
  rw [Y3005 H rfl (jrecv_in x1 rfl), F3005_0]
  simp (disch := first | assumption | omega | decide | exact okF_i | exact okF_r | exact okF_n | exact okF_j | rfl) only [jc_ref, rI_int, rR_ref, rR_null, rJ_long, ckR_ref, ckR_null, ckr_ref, ckr_null, ckW_int, ckW_ref, ckW_null, cI_ok, cR_ok, cR_null, cV_ok, cJ_ok, qH_eq, qD_in, aG_ref, aS_ref, aL_ref, pF_ref, cK_ref, cK_null, zI_lit, zJ_lit, zI_add, zI_sub, zI_mul, zI_neg, zI_eq, zI_lt, zI_le, Int.reduceLT, Int.reduceLE, Int.reduceAdd, Int.reduceSub, Int.reduceMul, Int.reduceNeg, Int.reduceEq, Int.reduceNe, reduceIte, jf_in, pFc_in, aGi, aGb, aSi, aLc_in, cKc_in, nA_in, jm_s1, jm_s2, jm_p1, jm_p2, jm_b, jn_b, jn_s, jn_p, jset_jset, jset_jpush2, ckR_is, ckr_is, rR_is, ckW_is, cR_is, obi2, ckW_int, eq_self, if_true, ref_null, if_false, ne_eq, not_true_eq_false, not_false_eq_true, decide_true, decide_false, decide_not, Bool.true_and, Bool.false_and, Bool.and_true, Bool.and_false, Bool.true_or, Bool.false_or, Bool.or_true, Bool.or_false, Bool.not_true, Bool.not_false, Bool.false_eq_true, bI_t, bI_f, Int.natCast_one, Int.cast_ofNat_Int, Int.natCast_zero, o23_0, o23_1, o23_2, o12_0, o12_1, o13_0, o13_1, o13_2, o13_3, o13_4, o13_5, o13_6, o14_0, o14_1, o14_2, o14_3, o14_4, o14_5, o3_0, o3_1, o3_2, o3_3, o3_4, o11_0, o11_1, o11_2, o11_3, o4_0, o4_1, o4_2, o4_3, o4_4, o4_5, o4_6, x1, y1, z2, w1]
def likeP (S : Int → Int) (r f : Int) (x : Int) : Bool := decide (S (249 + x) = S (40 + S (82 + f))) && likeC (cellS S r) (S (64 + f)) (S (70 + f)) (cellS S x) (S (46 + S (82 + f))) (S (52 + S (82 + f)))
theorem par_loop (W : StW S) (hF : Fzn F H) {l : List Value} {ins on : Int} {ar : Nat} {v1 v2 v3 : Value} {cap : Nat} {mc : Int32} (h1 : jm H a = some (4, 7, o4 (.ref q) ins on (.ref ar) v1 v2 v3)) (h2 : jm H ar = some (cAL cap mc l)) (h3 : cap < 1000) (h4 : RowsF F l S 150 348 ra)
    (hb : RowF F b r (S (249 + r)) (cellS S r)) (r0 : 0 ≤ r) (r1 : r < 99) (hf : RefF F fb f S) (f0 : 0 ≤ f) (f1 : f < S 2) {kb : Nat} (hk : KeyF F kb (S (82 + f)) S) : ∀ (s : List Int) (n : Nat), (alv S 150 99 0).drop n = s → n ≤ (alv S 150 99 0).length →
    G2 (d + 1) 4010 36 [.ref a, .ref b, .ref fb, .ref kb, .int (zI n)] [] H = some (.inl (some (match s.find? (likeP S r f) with | some x => .ref (ra x) | none => .null)), H) := by
  have hl := rows_len h4
  have hle := alv_le W
  have hsz := h_size (d := d) h2
  obtain ⟨R1, R2, R3, R4, ⟨R5, R6, R7, R8⟩, -⟩ := W.1.2.2.2.1 f f0 f1
  obtain ⟨K1, K2, K3, K4, K5⟩ := W.1.2.2.1 _ R5 R6
  have C1 := W.co R1.1 (by have := W.n0.1; omega)
  have C2 := W.co K1.1 (by have := W.n0.1; omega)
  have N0 := W.n0
  obtain ⟨fe, y1, y2⟩ := hf
  obtain ⟨ke, w1, w2⟩ := hk
  have y1' := hF.m y1; have w1' := hF.m w1
  have B4 := W.bx (i := 40 + S (82 + f)) (by omega) (by omega)
  intro s
  induction s with
  | nil =>
    intro n hn hnl
    have : (alv S 150 99 0).length ≤ n := by
      have := congrArg List.length hn
      simp at this
      omega
    rw [F4010_36]
    simp (disch := first | assumption | omega | decide | exact okF_i | exact okF_r | exact okF_n | exact okF_j | rfl) only [jc_ref, rI_int, rR_ref, rR_null, rJ_long, ckR_ref, ckR_null, ckr_ref, ckr_null, ckW_int, ckW_ref, ckW_null, cI_ok, cR_ok, cR_null, cV_ok, cJ_ok, qH_eq, qD_in, aG_ref, aS_ref, aL_ref, pF_ref, cK_ref, cK_null, zI_lit, zJ_lit, zI_add, zI_sub, zI_mul, zI_neg, zI_eq, zI_lt, zI_le, Int.reduceLT, Int.reduceLE, Int.reduceAdd, Int.reduceSub, Int.reduceMul, Int.reduceNeg, Int.reduceEq, Int.reduceNe, reduceIte, jf_in, pFc_in, aGi, aGb, aSi, aLc_in, cKc_in, nA_in, jm_s1, jm_s2, jm_p1, jm_p2, jm_b, jn_b, jn_s, jn_p, jset_jset, jset_jpush2, ckR_is, ckr_is, rR_is, ckW_is, cR_is, obi2, ckW_int, eq_self, if_true, ref_null, if_false, ne_eq, not_true_eq_false, not_false_eq_true, decide_true, decide_false, decide_not, Bool.true_and, Bool.false_and, Bool.and_true, Bool.and_false, Bool.true_or, Bool.false_or, Bool.or_true, Bool.or_false, Bool.not_true, Bool.not_false, Bool.false_eq_true, bI_t, bI_f, Int.natCast_one, Int.cast_ofNat_Int, Int.natCast_zero, o23_0, o23_1, o23_2, o12_0, o12_1, o13_0, o13_1, o13_2, o13_3, o13_4, o13_5, o13_6, o14_0, o14_1, o14_2, o14_3, o14_4, o14_5, o3_0, o3_1, o3_2, o3_3, o3_4, o11_0, o11_1, o11_2, o11_3, o4_0, o4_1, o4_2, o4_3, o4_4, o4_5, o4_6, h1, hsz]
    rw [if_pos (by omega)]
    rfl
  | cons x s ih =>
    intro n hn hnl
    obtain ⟨e1, e2, e3, e4, x0, x1, x2⟩ := rows_at h4 rfl hn
    have ih' := ih (n + 1) e3 (by omega)
    have hg := h_get (d := d) (i := n) h2 (by omega) (by omega) (by omega) (by omega)
    rw [Int.toNat_natCast, e1] at hg
    have TA := W.ta x0 x1
    have e2' := e2
    obtain ⟨xe, xg, m1, m2, m3⟩ := e2
    have m1' := hF.m m1
    have lk := c_isLike (d := d) hF hb y2 e2' w2 (W.csw r0 r1) (W.csw x0 x1) R2.1 (by omega) R3.1 (by omega) K2.1 (by omega) K3 (by omega) (by exact R8)
    rw [F4010_36]
    simp (disch := first | assumption | omega | decide | exact okF_i | exact okF_r | exact okF_n | exact okF_j | rfl) only [jc_ref, rI_int, rR_ref, rR_null, rJ_long, ckR_ref, ckR_null, ckr_ref, ckr_null, ckW_int, ckW_ref, ckW_null, cI_ok, cR_ok, cR_null, cV_ok, cJ_ok, qH_eq, qD_in, aG_ref, aS_ref, aL_ref, pF_ref, cK_ref, cK_null, zI_lit, zJ_lit, zI_add, zI_sub, zI_mul, zI_neg, zI_eq, zI_lt, zI_le, Int.reduceLT, Int.reduceLE, Int.reduceAdd, Int.reduceSub, Int.reduceMul, Int.reduceNeg, Int.reduceEq, Int.reduceNe, reduceIte, jf_in, pFc_in, aGi, aGb, aSi, aLc_in, cKc_in, nA_in, jm_s1, jm_s2, jm_p1, jm_p2, jm_b, jn_b, jn_s, jn_p, jset_jset, jset_jpush2, ckR_is, ckr_is, rR_is, ckW_is, cR_is, obi2, ckW_int, eq_self, if_true, ref_null, if_false, ne_eq, not_true_eq_false, not_false_eq_true, decide_true, decide_false, decide_not, Bool.true_and, Bool.false_and, Bool.and_true, Bool.and_false, Bool.true_or, Bool.false_or, Bool.or_true, Bool.or_false, Bool.not_true, Bool.not_false, Bool.false_eq_true, bI_t, bI_f, Int.natCast_one, Int.cast_ofNat_Int, Int.natCast_zero, o23_0, o23_1, o23_2, o12_0, o12_1, o13_0, o13_1, o13_2, o13_3, o13_4, o13_5, o13_6, o14_0, o14_1, o14_2, o14_3, o14_4, o14_5, o3_0, o3_1, o3_2, o3_3, o3_4, o11_0, o11_1, o11_2, o11_3, o4_0, o4_1, o4_2, o4_3, o4_4, o4_5, o4_6, h1, hsz, hg, m1', w1']
    rw [if_neg (by omega), List.find?_cons]
    have hP : likeP S r f x = (decide (S (249 + x) = S (40 + S (82 + f))) && likeC (cellS S r) (S (64 + f)) (S (70 + f)) (cellS S x) (S (46 + S (82 + f))) (S (52 + S (82 + f)))) := rfl
    rw [hP]
    by_cases t1 : S (249 + x) = S (40 + S (82 + f))
    · rw [if_pos t1, decide_eq_true t1, Bool.true_and]
      cases hq : likeC (cellS S r) (S (64 + f)) (S (70 + f)) (cellS S x) (S (46 + S (82 + f))) (S (52 + S (82 + f))) with
      | true =>
        rw [hq] at lk
        simp (disch := first | assumption | omega | decide | exact okF_i | exact okF_r | exact okF_n | exact okF_j | rfl) only [jc_ref, rI_int, rR_ref, rR_null, rJ_long, ckR_ref, ckR_null, ckr_ref, ckr_null, ckW_int, ckW_ref, ckW_null, cI_ok, cR_ok, cR_null, cV_ok, cJ_ok, qH_eq, qD_in, aG_ref, aS_ref, aL_ref, pF_ref, cK_ref, cK_null, zI_lit, zJ_lit, zI_add, zI_sub, zI_mul, zI_neg, zI_eq, zI_lt, zI_le, Int.reduceLT, Int.reduceLE, Int.reduceAdd, Int.reduceSub, Int.reduceMul, Int.reduceNeg, Int.reduceEq, Int.reduceNe, reduceIte, jf_in, pFc_in, aGi, aGb, aSi, aLc_in, cKc_in, nA_in, jm_s1, jm_s2, jm_p1, jm_p2, jm_b, jn_b, jn_s, jn_p, jset_jset, jset_jpush2, ckR_is, ckr_is, rR_is, ckW_is, cR_is, obi2, ckW_int, eq_self, if_true, ref_null, if_false, ne_eq, not_true_eq_false, not_false_eq_true, decide_true, decide_false, decide_not, Bool.true_and, Bool.false_and, Bool.and_true, Bool.and_false, Bool.true_or, Bool.false_or, Bool.or_true, Bool.or_false, Bool.not_true, Bool.not_false, Bool.false_eq_true, bI_t, bI_f, Int.natCast_one, Int.cast_ofNat_Int, Int.natCast_zero, o23_0, o23_1, o23_2, o12_0, o12_1, o13_0, o13_1, o13_2, o13_3, o13_4, o13_5, o13_6, o14_0, o14_1, o14_2, o14_3, o14_4, o14_5, o3_0, o3_1, o3_2, o3_3, o3_4, o11_0, o11_1, o11_2, o11_3, o4_0, o4_1, o4_2, o4_3, o4_4, o4_5, o4_6, y1', w1', h1, hg, m1', lk]
      | false =>
        rw [hq] at lk
        simp (disch := first | assumption | omega | decide | exact okF_i | exact okF_r | exact okF_n | exact okF_j | rfl) only [jc_ref, rI_int, rR_ref, rR_null, rJ_long, ckR_ref, ckR_null, ckr_ref, ckr_null, ckW_int, ckW_ref, ckW_null, cI_ok, cR_ok, cR_null, cV_ok, cJ_ok, qH_eq, qD_in, aG_ref, aS_ref, aL_ref, pF_ref, cK_ref, cK_null, zI_lit, zJ_lit, zI_add, zI_sub, zI_mul, zI_neg, zI_eq, zI_lt, zI_le, Int.reduceLT, Int.reduceLE, Int.reduceAdd, Int.reduceSub, Int.reduceMul, Int.reduceNeg, Int.reduceEq, Int.reduceNe, reduceIte, jf_in, pFc_in, aGi, aGb, aSi, aLc_in, cKc_in, nA_in, jm_s1, jm_s2, jm_p1, jm_p2, jm_b, jn_b, jn_s, jn_p, jset_jset, jset_jpush2, ckR_is, ckr_is, rR_is, ckW_is, cR_is, obi2, ckW_int, eq_self, if_true, ref_null, if_false, ne_eq, not_true_eq_false, not_false_eq_true, decide_true, decide_false, decide_not, Bool.true_and, Bool.false_and, Bool.and_true, Bool.and_false, Bool.true_or, Bool.false_or, Bool.or_true, Bool.or_false, Bool.not_true, Bool.not_false, Bool.false_eq_true, bI_t, bI_f, Int.natCast_one, Int.cast_ofNat_Int, Int.natCast_zero, o23_0, o23_1, o23_2, o12_0, o12_1, o13_0, o13_1, o13_2, o13_3, o13_4, o13_5, o13_6, o14_0, o14_1, o14_2, o14_3, o14_4, o14_5, o3_0, o3_1, o3_2, o3_3, o3_4, o11_0, o11_1, o11_2, o11_3, o4_0, o4_1, o4_2, o4_3, o4_4, o4_5, o4_6, y1', w1', h1, hg, m1', lk]
        exact ih'
    · rw [if_neg t1, decide_eq_false t1, Bool.false_and]
      exact ih'
theorem likeP_key (x f : Int) (hlen : S (52 + S (82 + f)) < 0 ↔ S (70 + f) < 0) (ht : S (40 + S (82 + f)) = S (76 + f)) : likeP S r f x = (decide (S (249 + x) = S (76 + f)) && hasKeyS S x (S (82 + f)) (cellS S r (S (64 + f))) (if S (70 + f) < 0 then 0 else cellS S r (S (70 + f)))) := by
  unfold likeP likeC hasKeyS
  rw [ht]
  by_cases h2 : S (70 + f) < 0
  · have h3 := hlen.mpr h2
    simp only [h2, h3, decide_true, Bool.true_or, Bool.and_true]
    congr 1
    exact decide_eq_decide.mpr eq_comm
  · have h3 : ¬ S (52 + S (82 + f)) < 0 := fun z => h2 (hlen.mp z)
    simp only [h2, h3, decide_false, Bool.false_or, if_false]
    congr 1
    congr 1
    · exact decide_eq_decide.mpr eq_comm
    · exact decide_eq_decide.mpr eq_comm
theorem c_parent (W : StW S) (hF : Fzn F H) (hS : SchF F q S nm) (hQ : StoQ F H a q S ra) (hb : RowF F b r (S (249 + r)) (cellS S r)) (r0 : 0 ≤ r) (r1 : r < 99) (hf : RefF F fb f S) (f0 : 0 ≤ f) (f1 : f < S 2) :
    M2 (d + 3) 4010 [.ref a, .ref b, .ref fb] H = some (.inl (some (prV ra (if S (249 + r) = S (58 + f) then tgtS S r f else -1))), H) := by
  obtain ⟨ins, on, ar, v1, v2, v3, cap, mc, l, h1, h2, h3, h4, -⟩ := hQ
  obtain ⟨R1, R2, R3, R4, ⟨R5, R6, R7, R8⟩, -⟩ := W.1.2.2.2.1 f f0 f1
  obtain ⟨kb, k1, k2⟩ := c_keyOf hF hS hf R5 R6
  have C1 := W.co R1.1 (by have := W.n0.1; omega)
  have N0 := W.n0
  have TA := W.ta r0 r1
  obtain ⟨fe, y1, y2⟩ := id hf
  obtain ⟨be, bg, m1, m2, m3⟩ := id hb
  have y1' := hF.m y1; have m1' := hF.m m1
  have B4 := W.bx (i := 58 + f) (by omega) (by omega)
  have k1' := k1
  obtain ⟨ke, w1, w2⟩ := k1
  have w1' := hF.m w1
  have ha := c_hasAll (d := d + 1) hF hb y2 (W.csw r0 r1) R2.1 (by omega) R3.1 (by omega)
  have hl := par_loop (d := d + 1) W hF h1 h2 h3 h4 hb r0 r1 hf f0 f1 k1' _ 0 rfl (Nat.zero_le _)
  rw [Y4010 H rfl rfl (jrecv_in h1 rfl), F4010_0]
  simp (disch := first | assumption | omega | decide | exact okF_i | exact okF_r | exact okF_n | exact okF_j | rfl) only [jc_ref, rI_int, rR_ref, rR_null, rJ_long, ckR_ref, ckR_null, ckr_ref, ckr_null, ckW_int, ckW_ref, ckW_null, cI_ok, cR_ok, cR_null, cV_ok, cJ_ok, qH_eq, qD_in, aG_ref, aS_ref, aL_ref, pF_ref, cK_ref, cK_null, zI_lit, zJ_lit, zI_add, zI_sub, zI_mul, zI_neg, zI_eq, zI_lt, zI_le, Int.reduceLT, Int.reduceLE, Int.reduceAdd, Int.reduceSub, Int.reduceMul, Int.reduceNeg, Int.reduceEq, Int.reduceNe, reduceIte, jf_in, pFc_in, aGi, aGb, aSi, aLc_in, cKc_in, nA_in, jm_s1, jm_s2, jm_p1, jm_p2, jm_b, jn_b, jn_s, jn_p, jset_jset, jset_jpush2, ckR_is, ckr_is, rR_is, ckW_is, cR_is, obi2, ckW_int, eq_self, if_true, ref_null, if_false, ne_eq, not_true_eq_false, not_false_eq_true, decide_true, decide_false, decide_not, Bool.true_and, Bool.false_and, Bool.and_true, Bool.and_false, Bool.true_or, Bool.false_or, Bool.or_true, Bool.or_false, Bool.not_true, Bool.not_false, Bool.false_eq_true, bI_t, bI_f, Int.natCast_one, Int.cast_ofNat_Int, Int.natCast_zero, o23_0, o23_1, o23_2, o12_0, o12_1, o13_0, o13_1, o13_2, o13_3, o13_4, o13_5, o13_6, o14_0, o14_1, o14_2, o14_3, o14_4, o14_5, o3_0, o3_1, o3_2, o3_3, o3_4, o11_0, o11_1, o11_2, o11_3, o4_0, o4_1, o4_2, o4_3, o4_4, o4_5, o4_6, m1', y1']
  by_cases t1 : S (249 + r) = S (58 + f)
  · rw [if_pos t1, if_pos t1]
    have cw := W.csw r0 r1
    have z1 := cw _ R2.1 (by omega)
    have hnull : (cellS S r (S (64 + f)) < 0 ∨ (if S (70 + f) < 0 then 0 else cellS S r (S (70 + f))) < 0) ↔ allC (cellS S r) (S (64 + f)) (S (70 + f)) = false := by
      unfold allC
      by_cases h2 : S (70 + f) < 0
      · simp only [h2, if_true, decide_true, Bool.true_or, Bool.and_true, decide_eq_false_iff_not, ne_eq, Decidable.not_not]
        omega
      · have z2 := cw (S (70 + f)) (by omega) (by omega)
        simp only [h2, if_false, decide_false, Bool.false_or, Bool.and_eq_false_iff, decide_eq_false_iff_not, ne_eq, Decidable.not_not]
        omega
    cases q1 : allC (cellS S r) (S (64 + f)) (S (70 + f)) with
    | false =>
      rw [q1] at ha
      have : tgtS S r f = -1 := by unfold tgtS; rw [if_pos (hnull.mpr q1)]
      simp (disch := first | assumption | omega | decide | exact okF_i | exact okF_r | exact okF_n | exact okF_j | rfl) only [jc_ref, rI_int, rR_ref, rR_null, rJ_long, ckR_ref, ckR_null, ckr_ref, ckr_null, ckW_int, ckW_ref, ckW_null, cI_ok, cR_ok, cR_null, cV_ok, cJ_ok, qH_eq, qD_in, aG_ref, aS_ref, aL_ref, pF_ref, cK_ref, cK_null, zI_lit, zJ_lit, zI_add, zI_sub, zI_mul, zI_neg, zI_eq, zI_lt, zI_le, Int.reduceLT, Int.reduceLE, Int.reduceAdd, Int.reduceSub, Int.reduceMul, Int.reduceNeg, Int.reduceEq, Int.reduceNe, reduceIte, jf_in, pFc_in, aGi, aGb, aSi, aLc_in, cKc_in, nA_in, jm_s1, jm_s2, jm_p1, jm_p2, jm_b, jn_b, jn_s, jn_p, jset_jset, jset_jpush2, ckR_is, ckr_is, rR_is, ckW_is, cR_is, obi2, ckW_int, eq_self, if_true, ref_null, if_false, ne_eq, not_true_eq_false, not_false_eq_true, decide_true, decide_false, decide_not, Bool.true_and, Bool.false_and, Bool.and_true, Bool.and_false, Bool.true_or, Bool.false_or, Bool.or_true, Bool.or_false, Bool.not_true, Bool.not_false, Bool.false_eq_true, bI_t, bI_f, Int.natCast_one, Int.cast_ofNat_Int, Int.natCast_zero, o23_0, o23_1, o23_2, o12_0, o12_1, o13_0, o13_1, o13_2, o13_3, o13_4, o13_5, o13_6, o14_0, o14_1, o14_2, o14_3, o14_4, o14_5, o3_0, o3_1, o3_2, o3_3, o3_4, o11_0, o11_1, o11_2, o11_3, o4_0, o4_1, o4_2, o4_3, o4_4, o4_5, o4_6, y1', m1', ha, this]
      rfl
    | true =>
      rw [q1] at ha
      have hn : ¬ (cellS S r (S (64 + f)) < 0 ∨ (if S (70 + f) < 0 then 0 else cellS S r (S (70 + f))) < 0) := fun z => by rw [hnull.mp z] at q1; cases q1
      have ht : tgtS S r f = ((alv S 150 99 0).find? (likeP S r f)).getD (-1) := by
        unfold tgtS
        rw [if_neg hn]
        have : (fun q => decide (S (150 + q) = 1) && (decide (S (249 + q) = S (76 + f)) && hasKeyS S q (S (82 + f)) (cellS S r (S (64 + f))) (if S (70 + f) < 0 then 0 else cellS S r (S (70 + f))))) = fun q => decide (S (150 + q) = 1) && likeP S r f q := funext fun x => by rw [likeP_key x f R8 R7]
        rw [this, fnd_alv]
      have hl0 : G2 (d + 2) 4010 36 [.ref a, .ref b, .ref fb, .ref kb, .int (zI 0)] [] H = some (.inl (some (match (alv S 150 99 0).find? (likeP S r f) with | some x => .ref (ra x) | none => .null)), H) := hl
      simp (disch := first | assumption | omega | decide | exact okF_i | exact okF_r | exact okF_n | exact okF_j | rfl) only [jc_ref, rI_int, rR_ref, rR_null, rJ_long, ckR_ref, ckR_null, ckr_ref, ckr_null, ckW_int, ckW_ref, ckW_null, cI_ok, cR_ok, cR_null, cV_ok, cJ_ok, qH_eq, qD_in, aG_ref, aS_ref, aL_ref, pF_ref, cK_ref, cK_null, zI_lit, zJ_lit, zI_add, zI_sub, zI_mul, zI_neg, zI_eq, zI_lt, zI_le, Int.reduceLT, Int.reduceLE, Int.reduceAdd, Int.reduceSub, Int.reduceMul, Int.reduceNeg, Int.reduceEq, Int.reduceNe, reduceIte, jf_in, pFc_in, aGi, aGb, aSi, aLc_in, cKc_in, nA_in, jm_s1, jm_s2, jm_p1, jm_p2, jm_b, jn_b, jn_s, jn_p, jset_jset, jset_jpush2, ckR_is, ckr_is, rR_is, ckW_is, cR_is, obi2, ckW_int, eq_self, if_true, ref_null, if_false, ne_eq, not_true_eq_false, not_false_eq_true, decide_true, decide_false, decide_not, Bool.true_and, Bool.false_and, Bool.and_true, Bool.and_false, Bool.true_or, Bool.false_or, Bool.or_true, Bool.or_false, Bool.not_true, Bool.not_false, Bool.false_eq_true, bI_t, bI_f, Int.natCast_one, Int.cast_ofNat_Int, Int.natCast_zero, o23_0, o23_1, o23_2, o12_0, o12_1, o13_0, o13_1, o13_2, o13_3, o13_4, o13_5, o13_6, o14_0, o14_1, o14_2, o14_3, o14_4, o14_5, o3_0, o3_1, o3_2, o3_3, o3_4, o11_0, o11_1, o11_2, o11_3, o4_0, o4_1, o4_2, o4_3, o4_4, o4_5, o4_6, y1', m1', ha, h1, k2, hl0]
      rw [ht]
      cases hfd : (alv S 150 99 0).find? (likeP S r f) with
      | none => rfl
      | some x =>
        have := (alv_mem 99 0 x).mp (List.mem_of_find?_eq_some hfd)
        simp only [Option.getD_some]
        unfold prV
        rw [if_neg (by omega)]
  · rw [if_neg t1, if_neg t1]
    rfl
end
