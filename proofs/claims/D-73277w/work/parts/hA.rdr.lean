/-! the component's reader: what it is, how it goes on by a token -/
-- jc_ref, rI_int, rR_ref, rR_null, rJ_long, ckR_ref, ckR_null, ckr_ref, ckr_null, ckW_int, ckW_ref, ckW_null, cI_ok, cR_ok, cR_null, cV_ok, cJ_ok, qH_eq, qD_in, aG_ref, aS_ref, aL_ref, pF_ref, cK_ref, cK_null, zI_lit, zJ_lit, zI_add, zI_sub, zI_mul, zI_neg, zI_eq, zI_lt, zI_le, Int.reduceLT, Int.reduceLE, Int.reduceAdd, Int.reduceSub, Int.reduceMul, Int.reduceNeg, Int.reduceEq, Int.reduceNe, reduceIte, jf_in, pFc_in, aGi, aGb, aSi, aLc_in, cKc_in, nA_in, jm_s1, jm_s2, jm_p1, jm_p2, jm_b, jn_b, jn_s, jn_p, jset_jset, jset_jpush2, ckR_is, ckr_is, rR_is, ckW_is, cR_is, obi2, ckW_int, eq_self, if_true, ref_null, if_false, ne_eq, not_true_eq_false, not_false_eq_true, decide_true, decide_false, decide_not, Bool.true_and, Bool.false_and, Bool.and_true, Bool.and_false, Bool.true_or, Bool.false_or, Bool.or_true, Bool.or_false, Bool.not_true, Bool.not_false, Bool.false_eq_true, bI_t, bI_f, Int.natCast_one, Int.cast_ofNat_Int, Int.natCast_zero, ju_self, ju_ne = jc_ref, rI_int, rR_ref, rR_null, rJ_long, ckR_ref, ckR_null, ckr_ref, ckr_null, ckW_int, ckW_ref, ckW_null, cI_ok, cR_ok, cR_null, cV_ok, cJ_ok, qH_eq, qD_in, aG_ref, aS_ref, aL_ref, pF_ref, cK_ref, cK_null, zI_lit, zJ_lit, zI_add, zI_sub, zI_mul, zI_neg, zI_eq, zI_lt, zI_le, Int.reduceLT, Int.reduceLE, Int.reduceAdd, Int.reduceSub, Int.reduceMul, Int.reduceNeg, Int.reduceEq, Int.reduceNe, reduceIte, jf_in, pFc_in, aGi, aGb, aSi, aLc_in, cKc_in, nA_in, jm_s1, jm_s2, jm_p1, jm_p2, jm_b, jn_b, jn_s, jn_p, jset_jset, jset_jpush2, ckR_is, ckr_is, rR_is, ckW_is, cR_is, obi2, ckW_int, eq_self, if_true, ref_null, if_false, ne_eq, not_true_eq_false, not_false_eq_true, decide_true, decide_false, decide_not, Bool.true_and, Bool.false_and, Bool.and_true, Bool.and_false, Bool.true_or, Bool.false_or, Bool.or_true, Bool.or_false, Bool.not_true, Bool.not_false, Bool.false_eq_true, bI_t, bI_f, Int.natCast_one, Int.cast_ofNat_Int, Int.natCast_zero, ju_self, ju_ne
theorem ju_same {f : Nat → Value} {k : Nat} {v : Value} (h : f k = v) : ju f k v = f := by
  funext i
  by_cases e : i = k
  · rw [e, ju_self, h]
  · rw [ju_ne e]
theorem ju_ju {f : Nat → Value} {k : Nat} {v w : Value} : ju (ju f k v) k w = ju f k w := by
  funext i
  by_cases e : i = k
  · rw [e, ju_self, ju_self]
  · rw [ju_ne e, ju_ne e, ju_ne e]
theorem ju_cm {f : Nat → Value} {k j : Nat} {v w : Value} (h : k ≠ j) : ju (ju f k v) j w = ju (ju f j w) k v := by
  funext i
  by_cases e : i = k
  · subst e; rw [ju_ne h, ju_self, ju_self]
  · by_cases e2 : i = j
    · subst e2; rw [ju_self, ju_ne e, ju_self]
    · rw [ju_ne e2, ju_ne e, ju_ne e, ju_ne e2]
theorem jset_same {H : AH} {a : Nat} {c : Cl} (h : jm H a = some c) : jset H a c = H := by
  unfold jset
  obtain ⟨x, y, e, m⟩ := H
  show (x, y, e, _) = _
  congr 3
  funext q
  by_cases hq : q = a
  · subst hq; rw [if_pos rfl]; exact h.symm
  · rw [if_neg hq]
/-- the program's words -/
def bsL : Nat → List Int
  | 9 => []
  | 10 => [32]
  | 11 => [45]
  | 12 => [98, 101, 103, 105, 110]
  | 13 => [99, 111, 109, 109, 105, 116]
  | 14 => [98, 97, 99, 107]
  | 15 => []
  | 16 => [32, 116, 97, 98, 108, 101, 32, 107, 101, 121, 32, 114, 101, 102, 32, 116, 111, 32, 114, 101, 102, 117, 115, 101, 32, 102, 111, 108, 108, 111, 119, 32, 99, 108, 101, 97, 114, 32, 114, 101, 115, 101, 116, 32, 102, 117, 108, 108, 32, 108, 97, 116, 101, 32, 100, 101, 102, 97, 117, 108, 116, 32, 110, 101, 101, 100, 32, 99, 104, 101, 99, 107, 32, 105, 110, 115, 101, 114, 116, 32, 100, 101, 108, 101, 116, 101, 32, 115, 101, 116, 32, 105, 102, 32, 110, 111, 110, 101, 32, 98, 101, 103, 105, 110, 32, 99, 111, 109, 109, 105, 116, 32, 98, 97, 99, 107, 32, 97, 110, 100, 32, 111, 114, 32, 110, 111, 116, 32, 98, 97, 114, 101, 32, 107, 110, 111, 119, 110, 32, 98, 114, 111, 107, 101, 110, 32, 105, 110, 32, 114, 111, 119, 32]
  | 17 => [32]
  | 18 => [110, 111, 110, 101]
  | 19 => [105, 110, 115, 101, 114, 116]
  | 20 => [100, 101, 108, 101, 116, 101]
  | 21 => [115, 101, 116]
  | 22 => [105, 102]
  | 23 => [97, 110, 100]
  | 24 => [116, 97, 98, 108, 101]
  | 25 => [107, 101, 121]
  | 26 => [114, 101, 102]
  | 27 => [100, 101, 102, 97, 117, 108, 116]
  | 28 => [110, 101, 101, 100]
  | 29 => [114, 101, 102, 117, 115, 101]
  | 30 => [102, 111, 108, 108, 111, 119]
  | 31 => [99, 108, 101, 97, 114]
  | 32 => [114, 101, 115, 101, 116]
  | 33 => [116, 111]
  | 34 => [102, 117, 108, 108]
  | 35 => [108, 97, 116, 101]
  | 36 => [99, 104, 101, 99, 107]
  | 37 => [111, 114]
  | 38 => [97, 110, 100]
  | 39 => [110, 111, 116]
  | 40 => [98, 97, 114, 101]
  | 41 => [107, 110, 111, 119, 110]
  | 42 => [98, 114, 111, 107, 101, 110]
  | 43 => [105, 110]
  | 44 => [114, 111, 119]
  | 45 => [114, 111, 119]
  | 46 => [58, 32]
  | _ => []
/-- what stands of the program's words -/
def EnvS (F : Nat → Option Cl) (E : Nat → Value) : Prop := (isR (E 3) = true ∧ isR (E 4) = true ∧ ∃ (u n : Nat) (f : Nat → Value), E 5 = .ref u ∧ F u = some (159, n, f)) ∧ ∀ k, 9 ≤ k → k < 47 → ∃ s, E k = .ref s ∧ StrF F s (bsL k)
theorem EnvS.sub {F G : Nat → Option Cl} {E : Nat → Value} (h : EnvS F E) (s : Sub F G) : EnvS G E := ⟨⟨h.1.1, h.1.2.1, by obtain ⟨u, n, f, h1, h2⟩ := h.1.2.2; exact ⟨u, n, f, h1, s _ _ h2⟩⟩, fun k k0 k1 => by obtain ⟨x, x1, x2⟩ := h.2 k k0 k1; exact ⟨x, x1, x2.sub s⟩⟩
/-- what holds all through reading: the tape tp with g, size z, limit l -/
def RdK (F : Nat → Option Cl) (E : Nat → Value) (tp : Nat) (g : Int → Int) (z l : Int) : Prop := F tp = some (1010, 940, aI g) ∧ (∀ i, -128 ≤ g i ∧ g i < 128) ∧ (0 ≤ z ∧ z ≤ 940) ∧ (0 ≤ l ∧ l ≤ 1000) ∧ EnvS F E
theorem RdK.sub {F G : Nat → Option Cl} {E : Nat → Value} {tp : Nat} {g : Int → Int} {z l : Int} (h : RdK F E tp g z l) (s : Sub F G) : RdK G E tp g z l := ⟨s _ _ h.1, h.2.1, h.2.2.1, h.2.2.2.1, h.2.2.2.2.sub s⟩
/-- a reader: object a of tag t, at place p of its tape -/
def RdO (H : AH) (a t n : Nat) (f : Nat → Value) (tp sc : Nat) (z l p : Int) : Prop := jm H a = some (t, n, f) ∧ (t = 9 ∨ t = 15 ∨ t = 27 ∨ t = 29) ∧ f 0 = .ref tp ∧ f 1 = .int (zI z) ∧ f 2 = .int (zI l) ∧ f 3 = .int (zI p) ∧ f 4 = .ref sc
def ckd (g : Int → Int) (z l q : Int) : Int := if kd g z l q = 0 then 0 else if kd g z l q = 1 then 2 else if kd g z l q = 2 then 3 else if kd g z l q = 3 then (if nmv g z q = 59 then 4 else 6) else if more g z l q = true then 5 else 1
/-- what a reader has of the token that was read from q on -/
def TkO (F : Nat → Option Cl) (f : Nat → Value) (g : Int → Int) (z l q : Int) : Prop := f 5 = .int (zI (ckd g z l q)) ∧ f 6 = .int (zI (plc g z l q)) ∧ (∃ x : Int32, f 7 = .int x) ∧ (kd g z l q = 2 → f 7 = .int (zI (nmv g z q))) ∧ (kd g z l q = 3 → f 8 = .int (zI (nmv g z q))) ∧ ∃ w, f 9 = .ref w ∧ (kd g z l q = 1 → ∃ s, StrF F w s ∧ NmB s ∧ pk s = wdv g z q)
section
variable {d : Nat} {H : AH} {a t n tp sc sb : Nat} {f : Nat → Value} {g : Int → Int} {z l p q : Int} {F : Nat → Option Cl} {E : Nat → Value}
theorem RdO.tg (h : RdO H a t n f tp sc z l p) : ([9, 15, 27, 29] : List Nat).elem t = true ∧ (([9, 15, 27, 29] : List Nat).elem t && Nat.blt t 100) = true := by
  rcases h.2.1 with e | e | e | e <;> subst e <;> exact ⟨rfl, rfl⟩
theorem RdO.up (h : RdO H a t n f tp sc z l p) {f2 : Nat → Value} {p2 : Int} {H2 : AH} (hm : jm H2 a = some (t, n, f2)) (e0 : f2 0 = f 0) (e1 : f2 1 = f 1) (e2 : f2 2 = f 2) (e3 : f2 3 = .int (zI p2)) (e4 : f2 4 = f 4) : RdO H2 a t n f2 tp sc z l p2 := ⟨hm, h.2.1, e0.trans h.2.2.1, e1.trans h.2.2.2.1, e2.trans h.2.2.2.2.1, e3, e4.trans h.2.2.2.2.2.2⟩
/-- a byte, as the component looks at it -/
def bya (g : Int → Int) (z p : Int) : Int := if p < z then g p % 256 else 0
theorem c_byteAt (K : RdK F E tp g z l) (hF : Fzn F H) (h : RdO H a t n f tp sc z l q) (p0 : 0 ≤ p) (p1 : p ≤ 1000) : M2 (d + 1) 8000 [.ref a, .int (zI p)] H = some (.inl (some (.int (zI (bya g z p)))), H) := by
  obtain ⟨t1, t2⟩ := h.tg
  obtain ⟨h0, ht, f0, f1, f2, f3, f4⟩ := h
  obtain ⟨k1, k2, k3, -⟩ := K
  replace k1 := hF.m k1
  have rv : (jtRecv 8000).elem t = true := by rcases ht with e | e | e | e <;> subst e <;> rfl
  rw [Y8000 H (jrecv_in h0 rv), F8000_0]
  unfold bya
  by_cases c : p < z
  · obtain ⟨g1, g2⟩ := k2 p
    have an := and255 (b := g p) g1 g2
    rw [if_pos c]
    simp (disch := first | assumption | omega | decide | exact okF_i | exact okF_r | exact okF_n | exact okF_j | rfl) only [jc_ref, rI_int, rR_ref, rR_null, rJ_long, ckR_ref, ckR_null, ckr_ref, ckr_null, ckW_int, ckW_ref, ckW_null, cI_ok, cR_ok, cR_null, cV_ok, cJ_ok, qH_eq, qD_in, aG_ref, aS_ref, aL_ref, pF_ref, cK_ref, cK_null, zI_lit, zJ_lit, zI_add, zI_sub, zI_mul, zI_neg, zI_eq, zI_lt, zI_le, Int.reduceLT, Int.reduceLE, Int.reduceAdd, Int.reduceSub, Int.reduceMul, Int.reduceNeg, Int.reduceEq, Int.reduceNe, reduceIte, jf_in, pFc_in, aGi, aGb, aSi, aLc_in, cKc_in, nA_in, jm_s1, jm_s2, jm_p1, jm_p2, jm_b, jn_b, jn_s, jn_p, jset_jset, jset_jpush2, ckR_is, ckr_is, rR_is, ckW_is, cR_is, obi2, ckW_int, eq_self, if_true, ref_null, if_false, ne_eq, not_true_eq_false, not_false_eq_true, decide_true, decide_false, decide_not, Bool.true_and, Bool.false_and, Bool.and_true, Bool.and_false, Bool.true_or, Bool.false_or, Bool.or_true, Bool.or_false, Bool.not_true, Bool.not_false, Bool.false_eq_true, bI_t, bI_f, Int.natCast_one, Int.cast_ofNat_Int, Int.natCast_zero, ju_self, ju_ne, h0, f0, f1, k1, an]
    try rw [if_neg (by omega)]
  · rw [if_neg c]
    simp (disch := first | assumption | omega | decide | exact okF_i | exact okF_r | exact okF_n | exact okF_j | rfl) only [jc_ref, rI_int, rR_ref, rR_null, rJ_long, ckR_ref, ckR_null, ckr_ref, ckr_null, ckW_int, ckW_ref, ckW_null, cI_ok, cR_ok, cR_null, cV_ok, cJ_ok, qH_eq, qD_in, aG_ref, aS_ref, aL_ref, pF_ref, cK_ref, cK_null, zI_lit, zJ_lit, zI_add, zI_sub, zI_mul, zI_neg, zI_eq, zI_lt, zI_le, Int.reduceLT, Int.reduceLE, Int.reduceAdd, Int.reduceSub, Int.reduceMul, Int.reduceNeg, Int.reduceEq, Int.reduceNe, reduceIte, jf_in, pFc_in, aGi, aGb, aSi, aLc_in, cKc_in, nA_in, jm_s1, jm_s2, jm_p1, jm_p2, jm_b, jn_b, jn_s, jn_p, jset_jset, jset_jpush2, ckR_is, ckr_is, rR_is, ckW_is, cR_is, obi2, ckW_int, eq_self, if_true, ref_null, if_false, ne_eq, not_true_eq_false, not_false_eq_true, decide_true, decide_false, decide_not, Bool.true_and, Bool.false_and, Bool.and_true, Bool.and_false, Bool.true_or, Bool.false_or, Bool.or_true, Bool.or_false, Bool.not_true, Bool.not_false, Bool.false_eq_true, bI_t, bI_f, Int.natCast_one, Int.cast_ofNat_Int, Int.natCast_zero, ju_self, ju_ne, h0, f0, f1]
    try rw [if_pos (by omega)]
theorem c_isDig {c : Int} (h : Rg c) : M2 (d + 1) 8007 [.int (zI c)] H = some (.inl (some (.int (zI (bZ (digit c))))), H) := by
  obtain ⟨h1, h2⟩ := h
  rw [Y8007 H, F8007_0]
  unfold digit
  by_cases c1 : c < 48
  · rw [decide_eq_false (by omega)]
    simp (disch := first | assumption | omega | decide | exact okF_i | exact okF_r | exact okF_n | exact okF_j | rfl) only [jc_ref, rI_int, rR_ref, rR_null, rJ_long, ckR_ref, ckR_null, ckr_ref, ckr_null, ckW_int, ckW_ref, ckW_null, cI_ok, cR_ok, cR_null, cV_ok, cJ_ok, qH_eq, qD_in, aG_ref, aS_ref, aL_ref, pF_ref, cK_ref, cK_null, zI_lit, zJ_lit, zI_add, zI_sub, zI_mul, zI_neg, zI_eq, zI_lt, zI_le, Int.reduceLT, Int.reduceLE, Int.reduceAdd, Int.reduceSub, Int.reduceMul, Int.reduceNeg, Int.reduceEq, Int.reduceNe, reduceIte, jf_in, pFc_in, aGi, aGb, aSi, aLc_in, cKc_in, nA_in, jm_s1, jm_s2, jm_p1, jm_p2, jm_b, jn_b, jn_s, jn_p, jset_jset, jset_jpush2, ckR_is, ckr_is, rR_is, ckW_is, cR_is, obi2, ckW_int, eq_self, if_true, ref_null, if_false, ne_eq, not_true_eq_false, not_false_eq_true, decide_true, decide_false, decide_not, Bool.true_and, Bool.false_and, Bool.and_true, Bool.and_false, Bool.true_or, Bool.false_or, Bool.or_true, Bool.or_false, Bool.not_true, Bool.not_false, Bool.false_eq_true, bI_t, bI_f, Int.natCast_one, Int.cast_ofNat_Int, Int.natCast_zero, ju_self, ju_ne, c1, bZ_f]
  · by_cases c2 : 57 < c
    · rw [decide_eq_false (by omega)]
      simp (disch := first | assumption | omega | decide | exact okF_i | exact okF_r | exact okF_n | exact okF_j | rfl) only [jc_ref, rI_int, rR_ref, rR_null, rJ_long, ckR_ref, ckR_null, ckr_ref, ckr_null, ckW_int, ckW_ref, ckW_null, cI_ok, cR_ok, cR_null, cV_ok, cJ_ok, qH_eq, qD_in, aG_ref, aS_ref, aL_ref, pF_ref, cK_ref, cK_null, zI_lit, zJ_lit, zI_add, zI_sub, zI_mul, zI_neg, zI_eq, zI_lt, zI_le, Int.reduceLT, Int.reduceLE, Int.reduceAdd, Int.reduceSub, Int.reduceMul, Int.reduceNeg, Int.reduceEq, Int.reduceNe, reduceIte, jf_in, pFc_in, aGi, aGb, aSi, aLc_in, cKc_in, nA_in, jm_s1, jm_s2, jm_p1, jm_p2, jm_b, jn_b, jn_s, jn_p, jset_jset, jset_jpush2, ckR_is, ckr_is, rR_is, ckW_is, cR_is, obi2, ckW_int, eq_self, if_true, ref_null, if_false, ne_eq, not_true_eq_false, not_false_eq_true, decide_true, decide_false, decide_not, Bool.true_and, Bool.false_and, Bool.and_true, Bool.and_false, Bool.true_or, Bool.false_or, Bool.or_true, Bool.or_false, Bool.not_true, Bool.not_false, Bool.false_eq_true, bI_t, bI_f, Int.natCast_one, Int.cast_ofNat_Int, Int.natCast_zero, ju_self, ju_ne, c1, c2, bZ_f]
    · rw [decide_eq_true (by omega)]
      simp (disch := first | assumption | omega | decide | exact okF_i | exact okF_r | exact okF_n | exact okF_j | rfl) only [jc_ref, rI_int, rR_ref, rR_null, rJ_long, ckR_ref, ckR_null, ckr_ref, ckr_null, ckW_int, ckW_ref, ckW_null, cI_ok, cR_ok, cR_null, cV_ok, cJ_ok, qH_eq, qD_in, aG_ref, aS_ref, aL_ref, pF_ref, cK_ref, cK_null, zI_lit, zJ_lit, zI_add, zI_sub, zI_mul, zI_neg, zI_eq, zI_lt, zI_le, Int.reduceLT, Int.reduceLE, Int.reduceAdd, Int.reduceSub, Int.reduceMul, Int.reduceNeg, Int.reduceEq, Int.reduceNe, reduceIte, jf_in, pFc_in, aGi, aGb, aSi, aLc_in, cKc_in, nA_in, jm_s1, jm_s2, jm_p1, jm_p2, jm_b, jn_b, jn_s, jn_p, jset_jset, jset_jpush2, ckR_is, ckr_is, rR_is, ckW_is, cR_is, obi2, ckW_int, eq_self, if_true, ref_null, if_false, ne_eq, not_true_eq_false, not_false_eq_true, decide_true, decide_false, decide_not, Bool.true_and, Bool.false_and, Bool.and_true, Bool.and_false, Bool.true_or, Bool.false_or, Bool.or_true, Bool.or_false, Bool.not_true, Bool.not_false, Bool.false_eq_true, bI_t, bI_f, Int.natCast_one, Int.cast_ofNat_Int, Int.natCast_zero, ju_self, ju_ne, c1, c2, bZ_t]
theorem c_isLet {c : Int} (h : Rg c) : M2 (d + 1) 8008 [.int (zI c)] H = some (.inl (some (.int (zI (bZ (small c))))), H) := by
  obtain ⟨h1, h2⟩ := h
  rw [Y8008 H, F8008_0]
  unfold small
  by_cases c1 : c < 97
  · rw [decide_eq_false (by omega)]
    simp (disch := first | assumption | omega | decide | exact okF_i | exact okF_r | exact okF_n | exact okF_j | rfl) only [jc_ref, rI_int, rR_ref, rR_null, rJ_long, ckR_ref, ckR_null, ckr_ref, ckr_null, ckW_int, ckW_ref, ckW_null, cI_ok, cR_ok, cR_null, cV_ok, cJ_ok, qH_eq, qD_in, aG_ref, aS_ref, aL_ref, pF_ref, cK_ref, cK_null, zI_lit, zJ_lit, zI_add, zI_sub, zI_mul, zI_neg, zI_eq, zI_lt, zI_le, Int.reduceLT, Int.reduceLE, Int.reduceAdd, Int.reduceSub, Int.reduceMul, Int.reduceNeg, Int.reduceEq, Int.reduceNe, reduceIte, jf_in, pFc_in, aGi, aGb, aSi, aLc_in, cKc_in, nA_in, jm_s1, jm_s2, jm_p1, jm_p2, jm_b, jn_b, jn_s, jn_p, jset_jset, jset_jpush2, ckR_is, ckr_is, rR_is, ckW_is, cR_is, obi2, ckW_int, eq_self, if_true, ref_null, if_false, ne_eq, not_true_eq_false, not_false_eq_true, decide_true, decide_false, decide_not, Bool.true_and, Bool.false_and, Bool.and_true, Bool.and_false, Bool.true_or, Bool.false_or, Bool.or_true, Bool.or_false, Bool.not_true, Bool.not_false, Bool.false_eq_true, bI_t, bI_f, Int.natCast_one, Int.cast_ofNat_Int, Int.natCast_zero, ju_self, ju_ne, c1, bZ_f]
  · by_cases c2 : 122 < c
    · rw [decide_eq_false (by omega)]
      simp (disch := first | assumption | omega | decide | exact okF_i | exact okF_r | exact okF_n | exact okF_j | rfl) only [jc_ref, rI_int, rR_ref, rR_null, rJ_long, ckR_ref, ckR_null, ckr_ref, ckr_null, ckW_int, ckW_ref, ckW_null, cI_ok, cR_ok, cR_null, cV_ok, cJ_ok, qH_eq, qD_in, aG_ref, aS_ref, aL_ref, pF_ref, cK_ref, cK_null, zI_lit, zJ_lit, zI_add, zI_sub, zI_mul, zI_neg, zI_eq, zI_lt, zI_le, Int.reduceLT, Int.reduceLE, Int.reduceAdd, Int.reduceSub, Int.reduceMul, Int.reduceNeg, Int.reduceEq, Int.reduceNe, reduceIte, jf_in, pFc_in, aGi, aGb, aSi, aLc_in, cKc_in, nA_in, jm_s1, jm_s2, jm_p1, jm_p2, jm_b, jn_b, jn_s, jn_p, jset_jset, jset_jpush2, ckR_is, ckr_is, rR_is, ckW_is, cR_is, obi2, ckW_int, eq_self, if_true, ref_null, if_false, ne_eq, not_true_eq_false, not_false_eq_true, decide_true, decide_false, decide_not, Bool.true_and, Bool.false_and, Bool.and_true, Bool.and_false, Bool.true_or, Bool.false_or, Bool.or_true, Bool.or_false, Bool.not_true, Bool.not_false, Bool.false_eq_true, bI_t, bI_f, Int.natCast_one, Int.cast_ofNat_Int, Int.natCast_zero, ju_self, ju_ne, c1, c2, bZ_f]
    · rw [decide_eq_true (by omega)]
      simp (disch := first | assumption | omega | decide | exact okF_i | exact okF_r | exact okF_n | exact okF_j | rfl) only [jc_ref, rI_int, rR_ref, rR_null, rJ_long, ckR_ref, ckR_null, ckr_ref, ckr_null, ckW_int, ckW_ref, ckW_null, cI_ok, cR_ok, cR_null, cV_ok, cJ_ok, qH_eq, qD_in, aG_ref, aS_ref, aL_ref, pF_ref, cK_ref, cK_null, zI_lit, zJ_lit, zI_add, zI_sub, zI_mul, zI_neg, zI_eq, zI_lt, zI_le, Int.reduceLT, Int.reduceLE, Int.reduceAdd, Int.reduceSub, Int.reduceMul, Int.reduceNeg, Int.reduceEq, Int.reduceNe, reduceIte, jf_in, pFc_in, aGi, aGb, aSi, aLc_in, cKc_in, nA_in, jm_s1, jm_s2, jm_p1, jm_p2, jm_b, jn_b, jn_s, jn_p, jset_jset, jset_jpush2, ckR_is, ckr_is, rR_is, ckW_is, cR_is, obi2, ckW_int, eq_self, if_true, ref_null, if_false, ne_eq, not_true_eq_false, not_false_eq_true, decide_true, decide_false, decide_not, Bool.true_and, Bool.false_and, Bool.and_true, Bool.and_false, Bool.true_or, Bool.false_or, Bool.or_true, Bool.or_false, Bool.not_true, Bool.not_false, Bool.false_eq_true, bI_t, bI_f, Int.natCast_one, Int.cast_ofNat_Int, Int.natCast_zero, ju_self, ju_ne, c1, c2, bZ_t]
theorem bya_rg (g : Int → Int) (z p : Int) : 0 ≤ bya g z p ∧ bya g z p < 256 := by unfold bya; split <;> omega
theorem bya_in (h : p < z) : bya g z p = tpk g z p := by unfold bya; rw [if_pos h, tpk_lt h]
theorem bya_sm : small (bya g z p) = small (tpk g z p) := by
  by_cases h : p < z
  · rw [bya_in h]
  · unfold bya; rw [if_neg h, tpk_ge (by omega)]; rfl
theorem bya_dg : digit (bya g z p) = digit (tpk g z p) := by
  by_cases h : p < z
  · rw [bya_in h]
  · unfold bya; rw [if_neg h, tpk_ge (by omega)]; rfl
/-- blanks are passed -/
theorem go_0 (K : RdK F E tp g z l) (ha : F a = none) : ∀ (m : Nat) (H : AH) (f : Nat → Value) (p : Int), Fzn F H → RdO H a t n f tp sc z l p → 0 ≤ p → p ≤ z → (z - p).toNat ≤ m →
    G2 (d + 1) 8004 0 [.ref a, jno, jno, jno, jno] [] H = G2 (d + 1) 8004 50 [.ref a, jno, jno, jno, jno] [] (jset H a (t, n, ju f 3 (.int (zI (sk g z p))))) := by
  have kz := K.2.2.1
  intro m
  induction m with
  | zero =>
    intro H f p hF h p0 p1 hm
    obtain ⟨t1, t2⟩ := h.tg
    obtain ⟨h0, ht, f0, f1, f2, f3, f4⟩ := id h
    have e : sk g z p = p := by rw [sk_step, if_neg (by rw [tpk_ge (by omega)]; omega)]
    rw [e, ju_same f3, jset_same h0]
    conv => lhs; rw [F8004_0]
    simp (disch := first | assumption | omega | decide | exact okF_i | exact okF_r | exact okF_n | exact okF_j | rfl) only [jc_ref, rI_int, rR_ref, rR_null, rJ_long, ckR_ref, ckR_null, ckr_ref, ckr_null, ckW_int, ckW_ref, ckW_null, cI_ok, cR_ok, cR_null, cV_ok, cJ_ok, qH_eq, qD_in, aG_ref, aS_ref, aL_ref, pF_ref, cK_ref, cK_null, zI_lit, zJ_lit, zI_add, zI_sub, zI_mul, zI_neg, zI_eq, zI_lt, zI_le, Int.reduceLT, Int.reduceLE, Int.reduceAdd, Int.reduceSub, Int.reduceMul, Int.reduceNeg, Int.reduceEq, Int.reduceNe, reduceIte, jf_in, pFc_in, aGi, aGb, aSi, aLc_in, cKc_in, nA_in, jm_s1, jm_s2, jm_p1, jm_p2, jm_b, jn_b, jn_s, jn_p, jset_jset, jset_jpush2, ckR_is, ckr_is, rR_is, ckW_is, cR_is, obi2, ckW_int, eq_self, if_true, ref_null, if_false, ne_eq, not_true_eq_false, not_false_eq_true, decide_true, decide_false, decide_not, Bool.true_and, Bool.false_and, Bool.and_true, Bool.and_false, Bool.true_or, Bool.false_or, Bool.or_true, Bool.or_false, Bool.not_true, Bool.not_false, Bool.false_eq_true, bI_t, bI_f, Int.natCast_one, Int.cast_ofNat_Int, Int.natCast_zero, ju_self, ju_ne, h0, f1, f3]
    try rw [if_pos (by omega)]
  | succ m ih =>
    intro H f p hF h p0 p1 hm
    obtain ⟨t1, t2⟩ := h.tg
    obtain ⟨h0, ht, f0, f1, f2, f3, f4⟩ := id h
    by_cases c : p < z
    · have by_ := c_byteAt (d := d) K hF h (p := p) p0 (by omega)
      have br := bya_rg g z p
      by_cases c2 : bya g z p = 32 ∨ bya g z p = 10
      · have e : sk g z p = sk g z (p + 1) := by rw [sk_step, if_pos (by rw [← bya_in c]; exact c2)]
        have h' : RdO (jset H a (t, n, ju f 3 (.int (zI (p + 1))))) a t n (ju f 3 (.int (zI (p + 1)))) tp sc z l (p + 1) := h.up jm_s1 (ju_ne (by decide)) (ju_ne (by decide)) (ju_ne (by decide)) ju_self (ju_ne (by decide))
        have i := ih _ _ (p + 1) (hF.fr (Fr.set (P := fun x => x = a) rfl) (fun x e => by rw [e]; exact ha)) h' (by omega) (by omega) (by omega)
        rw [jset_jset, ju_ju] at i
        rw [e, ← i]
        conv => lhs; rw [F8004_0]
        rcases c2 with c2 | c2
        · simp (disch := first | assumption | omega | decide | exact okF_i | exact okF_r | exact okF_n | exact okF_j | rfl) only [jc_ref, rI_int, rR_ref, rR_null, rJ_long, ckR_ref, ckR_null, ckr_ref, ckr_null, ckW_int, ckW_ref, ckW_null, cI_ok, cR_ok, cR_null, cV_ok, cJ_ok, qH_eq, qD_in, aG_ref, aS_ref, aL_ref, pF_ref, cK_ref, cK_null, zI_lit, zJ_lit, zI_add, zI_sub, zI_mul, zI_neg, zI_eq, zI_lt, zI_le, Int.reduceLT, Int.reduceLE, Int.reduceAdd, Int.reduceSub, Int.reduceMul, Int.reduceNeg, Int.reduceEq, Int.reduceNe, reduceIte, jf_in, pFc_in, aGi, aGb, aSi, aLc_in, cKc_in, nA_in, jm_s1, jm_s2, jm_p1, jm_p2, jm_b, jn_b, jn_s, jn_p, jset_jset, jset_jpush2, ckR_is, ckr_is, rR_is, ckW_is, cR_is, obi2, ckW_int, eq_self, if_true, ref_null, if_false, ne_eq, not_true_eq_false, not_false_eq_true, decide_true, decide_false, decide_not, Bool.true_and, Bool.false_and, Bool.and_true, Bool.and_false, Bool.true_or, Bool.false_or, Bool.or_true, Bool.or_false, Bool.not_true, Bool.not_false, Bool.false_eq_true, bI_t, bI_f, Int.natCast_one, Int.cast_ofNat_Int, Int.natCast_zero, ju_self, ju_ne, h0, f1, f3, by_, c2]
          rw [if_neg (by omega)]
        · simp (disch := first | assumption | omega | decide | exact okF_i | exact okF_r | exact okF_n | exact okF_j | rfl) only [jc_ref, rI_int, rR_ref, rR_null, rJ_long, ckR_ref, ckR_null, ckr_ref, ckr_null, ckW_int, ckW_ref, ckW_null, cI_ok, cR_ok, cR_null, cV_ok, cJ_ok, qH_eq, qD_in, aG_ref, aS_ref, aL_ref, pF_ref, cK_ref, cK_null, zI_lit, zJ_lit, zI_add, zI_sub, zI_mul, zI_neg, zI_eq, zI_lt, zI_le, Int.reduceLT, Int.reduceLE, Int.reduceAdd, Int.reduceSub, Int.reduceMul, Int.reduceNeg, Int.reduceEq, Int.reduceNe, reduceIte, jf_in, pFc_in, aGi, aGb, aSi, aLc_in, cKc_in, nA_in, jm_s1, jm_s2, jm_p1, jm_p2, jm_b, jn_b, jn_s, jn_p, jset_jset, jset_jpush2, ckR_is, ckr_is, rR_is, ckW_is, cR_is, obi2, ckW_int, eq_self, if_true, ref_null, if_false, ne_eq, not_true_eq_false, not_false_eq_true, decide_true, decide_false, decide_not, Bool.true_and, Bool.false_and, Bool.and_true, Bool.and_false, Bool.true_or, Bool.false_or, Bool.or_true, Bool.or_false, Bool.not_true, Bool.not_false, Bool.false_eq_true, bI_t, bI_f, Int.natCast_one, Int.cast_ofNat_Int, Int.natCast_zero, ju_self, ju_ne, h0, f1, f3, by_, c2]
          rw [if_neg (by omega)]
      · have e : sk g z p = p := by rw [sk_step, if_neg (by rw [← bya_in c]; exact c2)]
        rw [e, ju_same f3, jset_same h0]
        conv => lhs; rw [F8004_0]
        have n1 : ¬ bya g z p = 32 := fun x => c2 (Or.inl x)
        have n2 : ¬ bya g z p = 10 := fun x => c2 (Or.inr x)
        simp (disch := first | assumption | omega | decide | exact okF_i | exact okF_r | exact okF_n | exact okF_j | rfl) only [jc_ref, rI_int, rR_ref, rR_null, rJ_long, ckR_ref, ckR_null, ckr_ref, ckr_null, ckW_int, ckW_ref, ckW_null, cI_ok, cR_ok, cR_null, cV_ok, cJ_ok, qH_eq, qD_in, aG_ref, aS_ref, aL_ref, pF_ref, cK_ref, cK_null, zI_lit, zJ_lit, zI_add, zI_sub, zI_mul, zI_neg, zI_eq, zI_lt, zI_le, Int.reduceLT, Int.reduceLE, Int.reduceAdd, Int.reduceSub, Int.reduceMul, Int.reduceNeg, Int.reduceEq, Int.reduceNe, reduceIte, jf_in, pFc_in, aGi, aGb, aSi, aLc_in, cKc_in, nA_in, jm_s1, jm_s2, jm_p1, jm_p2, jm_b, jn_b, jn_s, jn_p, jset_jset, jset_jpush2, ckR_is, ckr_is, rR_is, ckW_is, cR_is, obi2, ckW_int, eq_self, if_true, ref_null, if_false, ne_eq, not_true_eq_false, not_false_eq_true, decide_true, decide_false, decide_not, Bool.true_and, Bool.false_and, Bool.and_true, Bool.and_false, Bool.true_or, Bool.false_or, Bool.or_true, Bool.or_false, Bool.not_true, Bool.not_false, Bool.false_eq_true, bI_t, bI_f, Int.natCast_one, Int.cast_ofNat_Int, Int.natCast_zero, ju_self, ju_ne, h0, f1, f3, by_, n1, n2]
        try rw [if_neg (by omega)]
    · have e : sk g z p = p := by rw [sk_step, if_neg (by rw [tpk_ge (by omega)]; omega)]
      rw [e, ju_same f3, jset_same h0]
      conv => lhs; rw [F8004_0]
      simp (disch := first | assumption | omega | decide | exact okF_i | exact okF_r | exact okF_n | exact okF_j | rfl) only [jc_ref, rI_int, rR_ref, rR_null, rJ_long, ckR_ref, ckR_null, ckr_ref, ckr_null, ckW_int, ckW_ref, ckW_null, cI_ok, cR_ok, cR_null, cV_ok, cJ_ok, qH_eq, qD_in, aG_ref, aS_ref, aL_ref, pF_ref, cK_ref, cK_null, zI_lit, zJ_lit, zI_add, zI_sub, zI_mul, zI_neg, zI_eq, zI_lt, zI_le, Int.reduceLT, Int.reduceLE, Int.reduceAdd, Int.reduceSub, Int.reduceMul, Int.reduceNeg, Int.reduceEq, Int.reduceNe, reduceIte, jf_in, pFc_in, aGi, aGb, aSi, aLc_in, cKc_in, nA_in, jm_s1, jm_s2, jm_p1, jm_p2, jm_b, jn_b, jn_s, jn_p, jset_jset, jset_jpush2, ckR_is, ckr_is, rR_is, ckW_is, cR_is, obi2, ckW_int, eq_self, if_true, ref_null, if_false, ne_eq, not_true_eq_false, not_false_eq_true, decide_true, decide_false, decide_not, Bool.true_and, Bool.false_and, Bool.and_true, Bool.and_false, Bool.true_or, Bool.false_or, Bool.or_true, Bool.or_false, Bool.not_true, Bool.not_false, Bool.false_eq_true, bI_t, bI_f, Int.natCast_one, Int.cast_ofNat_Int, Int.natCast_zero, ju_self, ju_ne, h0, f1, f3]
      try rw [if_pos (by omega)]
/-- a word's bytes -/
def wdB (g : Int → Int) (z : Int) : Nat → Int → List Int
  | 0, _ => []
  | k + 1, p => tpk g z p :: wdB g z k (p + 1)
theorem wdB_len : ∀ (k : Nat) (p : Int), (wdB g z k p).length = k
  | 0, _ => rfl
  | k + 1, p => by simp only [wdB, List.length_cons, wdB_len k]
theorem wdF_B : ∀ (k : Nat) (p x : Int), wdF g z k p x = (wdB g z k p).foldl (fun a b => a * 256 + b) x
  | 0, _, _ => rfl
  | k + 1, p, x => by simp only [wdF, wdB, List.foldl_cons, wdF_B k]
theorem ch16 : ∀ c : Fin 128, (((zI (c.val : Int)).toUInt32 % 65536).toInt32) = zI (c.val : Int) := by decide +kernel
theorem ch16' {c : Int} (c0 : 0 ≤ c) (c1 : c < 128) : (((zI c).toUInt32 % 65536).toInt32) = zI c := by
  have k := ch16 ⟨c.toNat, by omega⟩
  have e : ((c.toNat : Nat) : Int) = c := by omega
  simp only [e] at k
  exact k
theorem go_La (K : RdK F E tp g z l) (hF : Fzn F H) {c1 : Int32} {s good : Bool} (h : RdO H a t n f tp sc z l p) (p0 : 0 ≤ p) (p1 : p ≤ 1000) (hc : alnum (tpk g z p) = true) :
    G2 (d + 1) 8004 221 [.ref a, .int c1, .int (zI (bZ s)), .int (zI (bZ good)), .ref sb] [] H = G2 (d + 1) 8004 273 [.ref a, .int c1, .int (zI (bZ s)), .int (zI (bZ good)), .ref sb] [.int (zI (bZ (good && (small (tpk g z p) == s))))] H := by
  obtain ⟨t1, t2⟩ := h.tg
  have by_ := c_byteAt (d := d) K hF h (p := p) p0 p1
  have br := bya_rg g z p
  have le := c_isLet (d := d) (H := H) (c := bya g z p) ⟨by omega, by omega⟩
  have dg := c_isDig (d := d) (H := H) (c := bya g z p) ⟨by omega, by omega⟩
  rw [bya_sm] at le
  rw [bya_dg] at dg
  obtain ⟨h0, ht, f0, f1, f2, f3, f4⟩ := id h
  have st : G2 (d + 1) 8004 221 [.ref a, .int c1, .int (zI (bZ s)), .int (zI (bZ good)), .ref sb] [] H = G2 (d + 1) 8004 249 [.ref a, .int c1, .int (zI (bZ s)), .int (zI (bZ good)), .ref sb] [] H := by
    conv => lhs; rw [F8004_221]
    cases e : small (tpk g z p) with
    | true =>
      rw [e, bZ_t] at le
      simp (disch := first | assumption | omega | decide | exact okF_i | exact okF_r | exact okF_n | exact okF_j | rfl) only [jc_ref, rI_int, rR_ref, rR_null, rJ_long, ckR_ref, ckR_null, ckr_ref, ckr_null, ckW_int, ckW_ref, ckW_null, cI_ok, cR_ok, cR_null, cV_ok, cJ_ok, qH_eq, qD_in, aG_ref, aS_ref, aL_ref, pF_ref, cK_ref, cK_null, zI_lit, zJ_lit, zI_add, zI_sub, zI_mul, zI_neg, zI_eq, zI_lt, zI_le, Int.reduceLT, Int.reduceLE, Int.reduceAdd, Int.reduceSub, Int.reduceMul, Int.reduceNeg, Int.reduceEq, Int.reduceNe, reduceIte, jf_in, pFc_in, aGi, aGb, aSi, aLc_in, cKc_in, nA_in, jm_s1, jm_s2, jm_p1, jm_p2, jm_b, jn_b, jn_s, jn_p, jset_jset, jset_jpush2, ckR_is, ckr_is, rR_is, ckW_is, cR_is, obi2, ckW_int, eq_self, if_true, ref_null, if_false, ne_eq, not_true_eq_false, not_false_eq_true, decide_true, decide_false, decide_not, Bool.true_and, Bool.false_and, Bool.and_true, Bool.and_false, Bool.true_or, Bool.false_or, Bool.or_true, Bool.or_false, Bool.not_true, Bool.not_false, Bool.false_eq_true, bI_t, bI_f, Int.natCast_one, Int.cast_ofNat_Int, Int.natCast_zero, ju_self, ju_ne, h0, f3, by_, le]
      try rw [if_neg (by decide)]
    | false =>
      have e2 : digit (tpk g z p) = true := by
        unfold alnum at hc
        rw [e, Bool.false_or] at hc
        exact hc
      rw [e, bZ_f] at le
      rw [e2, bZ_t] at dg
      simp (disch := first | assumption | omega | decide | exact okF_i | exact okF_r | exact okF_n | exact okF_j | rfl) only [jc_ref, rI_int, rR_ref, rR_null, rJ_long, ckR_ref, ckR_null, ckr_ref, ckr_null, ckW_int, ckW_ref, ckW_null, cI_ok, cR_ok, cR_null, cV_ok, cJ_ok, qH_eq, qD_in, aG_ref, aS_ref, aL_ref, pF_ref, cK_ref, cK_null, zI_lit, zJ_lit, zI_add, zI_sub, zI_mul, zI_neg, zI_eq, zI_lt, zI_le, Int.reduceLT, Int.reduceLE, Int.reduceAdd, Int.reduceSub, Int.reduceMul, Int.reduceNeg, Int.reduceEq, Int.reduceNe, reduceIte, jf_in, pFc_in, aGi, aGb, aSi, aLc_in, cKc_in, nA_in, jm_s1, jm_s2, jm_p1, jm_p2, jm_b, jn_b, jn_s, jn_p, jset_jset, jset_jpush2, ckR_is, ckr_is, rR_is, ckW_is, cR_is, obi2, ckW_int, eq_self, if_true, ref_null, if_false, ne_eq, not_true_eq_false, not_false_eq_true, decide_true, decide_false, decide_not, Bool.true_and, Bool.false_and, Bool.and_true, Bool.and_false, Bool.true_or, Bool.false_or, Bool.or_true, Bool.or_false, Bool.not_true, Bool.not_false, Bool.false_eq_true, bI_t, bI_f, Int.natCast_one, Int.cast_ofNat_Int, Int.natCast_zero, ju_self, ju_ne, h0, f3, by_, le, dg]
      try rw [if_pos rfl, if_neg (by decide)]
  rw [st, F8004_249]
  cases good with
  | false =>
    rw [Bool.false_and, bZ_f]
    exact if_pos rfl
  | true =>
    rw [Bool.true_and, bZ_t]
    refine (if_neg (by decide)).trans ?_
    simp (disch := first | assumption | omega | decide | exact okF_i | exact okF_r | exact okF_n | exact okF_j | rfl) only [jc_ref, rI_int, rR_ref, rR_null, rJ_long, ckR_ref, ckR_null, ckr_ref, ckr_null, ckW_int, ckW_ref, ckW_null, cI_ok, cR_ok, cR_null, cV_ok, cJ_ok, qH_eq, qD_in, aG_ref, aS_ref, aL_ref, pF_ref, cK_ref, cK_null, zI_lit, zJ_lit, zI_add, zI_sub, zI_mul, zI_neg, zI_eq, zI_lt, zI_le, Int.reduceLT, Int.reduceLE, Int.reduceAdd, Int.reduceSub, Int.reduceMul, Int.reduceNeg, Int.reduceEq, Int.reduceNe, reduceIte, jf_in, pFc_in, aGi, aGb, aSi, aLc_in, cKc_in, nA_in, jm_s1, jm_s2, jm_p1, jm_p2, jm_b, jn_b, jn_s, jn_p, jset_jset, jset_jpush2, ckR_is, ckr_is, rR_is, ckW_is, cR_is, obi2, ckW_int, eq_self, if_true, ref_null, if_false, ne_eq, not_true_eq_false, not_false_eq_true, decide_true, decide_false, decide_not, Bool.true_and, Bool.false_and, Bool.and_true, Bool.and_false, Bool.true_or, Bool.false_or, Bool.or_true, Bool.or_false, Bool.not_true, Bool.not_false, Bool.false_eq_true, bI_t, bI_f, Int.natCast_one, Int.cast_ofNat_Int, Int.natCast_zero, ju_self, ju_ne, h0, f3, by_, le]
    cases e : small (tpk g z p) <;> cases s
    · rw [if_pos rfl]; rfl
    · rw [if_neg (by decide)]; rfl
    · rw [if_neg (by decide)]; rfl
    · rw [if_pos rfl]; rfl
theorem go_Lb (K : RdK F E tp g z l) (hF : Fzn F H) {c1 x : Int32} {s good : Bool} {k : Nat} {sg : Int} {b : List Int} (h : RdO H a t n f tp sc z l (sg + k)) (h6 : f 6 = .int (zI sg)) (sg0 : 0 ≤ sg) (p1 : sg + k ≤ 1000) (hc : alnum (tpk g z (sg + k)) = true) (hb : jm H sb = some (cSB 16 b)) (hw : SbW b) (hl : b.length = min 7 k) :
    G2 (d + 1) 8004 273 [.ref a, .int c1, .int (zI (bZ s)), .int (zI (bZ good)), .ref sb] [.int x] H = G2 (d + 1) 8004 303 [.ref a, .int c1, .int (zI (bZ s)), .int x, .ref sb] [] (if k < 7 then jset H sb (cSB 16 (b ++ [tpk g z (sg + k)])) else H) := by
  obtain ⟨t1, t2⟩ := h.tg
  have by_ := c_byteAt (d := d) K hF h (p := sg + k) (by omega) p1
  have hz := alnum_in hc
  rw [bya_in hz] at by_
  have ap := alnum_pos hc
  obtain ⟨h0, ht, f0, f1, f2, f3, f4⟩ := id h
  have ap2 := h_sappC (d := d) (i := tpk g z (sg + k)) hb hw (by omega) (by omega) (by omega)
  have cc := ch16' (c := tpk g z (sg + k)) (by omega) (by omega)
  rw [F8004_273]
  by_cases c : k < 7
  · have g1 : sbGrow H 16 (b.length + 1) = H := by unfold sbGrow; rw [if_pos (by omega)]
    have g2 : sbCap 16 (b.length + 1) = 16 := by unfold sbCap; rw [if_pos (by omega)]
    rw [g1, g2] at ap2
    rw [if_pos c]
    have e : sg + (k : Int) - sg = k := by omega
    simp (disch := first | assumption | omega | decide | exact okF_i | exact okF_r | exact okF_n | exact okF_j | rfl) only [jc_ref, rI_int, rR_ref, rR_null, rJ_long, ckR_ref, ckR_null, ckr_ref, ckr_null, ckW_int, ckW_ref, ckW_null, cI_ok, cR_ok, cR_null, cV_ok, cJ_ok, qH_eq, qD_in, aG_ref, aS_ref, aL_ref, pF_ref, cK_ref, cK_null, zI_lit, zJ_lit, zI_add, zI_sub, zI_mul, zI_neg, zI_eq, zI_lt, zI_le, Int.reduceLT, Int.reduceLE, Int.reduceAdd, Int.reduceSub, Int.reduceMul, Int.reduceNeg, Int.reduceEq, Int.reduceNe, reduceIte, jf_in, pFc_in, aGi, aGb, aSi, aLc_in, cKc_in, nA_in, jm_s1, jm_s2, jm_p1, jm_p2, jm_b, jn_b, jn_s, jn_p, jset_jset, jset_jpush2, ckR_is, ckr_is, rR_is, ckW_is, cR_is, obi2, ckW_int, eq_self, if_true, ref_null, if_false, ne_eq, not_true_eq_false, not_false_eq_true, decide_true, decide_false, decide_not, Bool.true_and, Bool.false_and, Bool.and_true, Bool.and_false, Bool.true_or, Bool.false_or, Bool.or_true, Bool.or_false, Bool.not_true, Bool.not_false, Bool.false_eq_true, bI_t, bI_f, Int.natCast_one, Int.cast_ofNat_Int, Int.natCast_zero, ju_self, ju_ne, h0, f3, h6, by_, e, cc, ap2]
    try rw [if_neg (by omega)]
  · rw [if_neg c]
    have e : sg + (k : Int) - sg = k := by omega
    simp (disch := first | assumption | omega | decide | exact okF_i | exact okF_r | exact okF_n | exact okF_j | rfl) only [jc_ref, rI_int, rR_ref, rR_null, rJ_long, ckR_ref, ckR_null, ckr_ref, ckr_null, ckW_int, ckW_ref, ckW_null, cI_ok, cR_ok, cR_null, cV_ok, cJ_ok, qH_eq, qD_in, aG_ref, aS_ref, aL_ref, pF_ref, cK_ref, cK_null, zI_lit, zJ_lit, zI_add, zI_sub, zI_mul, zI_neg, zI_eq, zI_lt, zI_le, Int.reduceLT, Int.reduceLE, Int.reduceAdd, Int.reduceSub, Int.reduceMul, Int.reduceNeg, Int.reduceEq, Int.reduceNe, reduceIte, jf_in, pFc_in, aGi, aGb, aSi, aLc_in, cKc_in, nA_in, jm_s1, jm_s2, jm_p1, jm_p2, jm_b, jn_b, jn_s, jn_p, jset_jset, jset_jpush2, ckR_is, ckr_is, rR_is, ckW_is, cR_is, obi2, ckW_int, eq_self, if_true, ref_null, if_false, ne_eq, not_true_eq_false, not_false_eq_true, decide_true, decide_false, decide_not, Bool.true_and, Bool.false_and, Bool.and_true, Bool.and_false, Bool.true_or, Bool.false_or, Bool.or_true, Bool.or_false, Bool.not_true, Bool.not_false, Bool.false_eq_true, bI_t, bI_f, Int.natCast_one, Int.cast_ofNat_Int, Int.natCast_zero, ju_self, ju_ne, h0, f3, h6, e]
    try rw [if_pos (by omega)]
theorem go_Lc (K : RdK F E tp g z l) (hF : Fzn F H) {c1 x : Int32} {s : Bool} {k : Nat} {sg num : Int} (h : RdO H a t n f tp sc z l (sg + k)) (h6 : f 6 = .int (zI sg)) (h7 : f 7 = .int (zI num)) (sg0 : 0 ≤ sg) (p1 : sg + k ≤ 1000) (hc : alnum (tpk g z (sg + k)) = true) :
    G2 (d + 1) 8004 303 [.ref a, .int c1, .int (zI (bZ s)), .int x, .ref sb] [] H = G2 (d + 1) 8004 221 [.ref a, .int c1, .int (zI (bZ s)), .int x, .ref sb] [] (jset H a (t, n, ju (ju f 7 (.int (zI (if k < 3 then 10 * num + tpk g z (sg + k) - 48 else num)))) 3 (.int (zI (sg + k + 1))))) := by
  obtain ⟨t1, t2⟩ := h.tg
  have by_ := c_byteAt (d := d) K hF h (p := sg + k) (by omega) p1
  rw [bya_in (alnum_in hc)] at by_
  obtain ⟨h0, ht, f0, f1, f2, f3, f4⟩ := id h
  have e : sg + (k : Int) - sg = k := by omega
  rw [F8004_303]
  by_cases c : k < 3
  · rw [if_pos c]
    simp (disch := first | assumption | omega | decide | exact okF_i | exact okF_r | exact okF_n | exact okF_j | rfl) only [jc_ref, rI_int, rR_ref, rR_null, rJ_long, ckR_ref, ckR_null, ckr_ref, ckr_null, ckW_int, ckW_ref, ckW_null, cI_ok, cR_ok, cR_null, cV_ok, cJ_ok, qH_eq, qD_in, aG_ref, aS_ref, aL_ref, pF_ref, cK_ref, cK_null, zI_lit, zJ_lit, zI_add, zI_sub, zI_mul, zI_neg, zI_eq, zI_lt, zI_le, Int.reduceLT, Int.reduceLE, Int.reduceAdd, Int.reduceSub, Int.reduceMul, Int.reduceNeg, Int.reduceEq, Int.reduceNe, reduceIte, jf_in, pFc_in, aGi, aGb, aSi, aLc_in, cKc_in, nA_in, jm_s1, jm_s2, jm_p1, jm_p2, jm_b, jn_b, jn_s, jn_p, jset_jset, jset_jpush2, ckR_is, ckr_is, rR_is, ckW_is, cR_is, obi2, ckW_int, eq_self, if_true, ref_null, if_false, ne_eq, not_true_eq_false, not_false_eq_true, decide_true, decide_false, decide_not, Bool.true_and, Bool.false_and, Bool.and_true, Bool.and_false, Bool.true_or, Bool.false_or, Bool.or_true, Bool.or_false, Bool.not_true, Bool.not_false, Bool.false_eq_true, bI_t, bI_f, Int.natCast_one, Int.cast_ofNat_Int, Int.natCast_zero, ju_self, ju_ne, h0, f3, h6, h7, by_, e]
    try rw [if_neg (by omega)]
  · rw [if_neg c, ju_same h7]
    simp (disch := first | assumption | omega | decide | exact okF_i | exact okF_r | exact okF_n | exact okF_j | rfl) only [jc_ref, rI_int, rR_ref, rR_null, rJ_long, ckR_ref, ckR_null, ckr_ref, ckr_null, ckW_int, ckW_ref, ckW_null, cI_ok, cR_ok, cR_null, cV_ok, cJ_ok, qH_eq, qD_in, aG_ref, aS_ref, aL_ref, pF_ref, cK_ref, cK_null, zI_lit, zJ_lit, zI_add, zI_sub, zI_mul, zI_neg, zI_eq, zI_lt, zI_le, Int.reduceLT, Int.reduceLE, Int.reduceAdd, Int.reduceSub, Int.reduceMul, Int.reduceNeg, Int.reduceEq, Int.reduceNe, reduceIte, jf_in, pFc_in, aGi, aGb, aSi, aLc_in, cKc_in, nA_in, jm_s1, jm_s2, jm_p1, jm_p2, jm_b, jn_b, jn_s, jn_p, jset_jset, jset_jpush2, ckR_is, ckr_is, rR_is, ckW_is, cR_is, obi2, ckW_int, eq_self, if_true, ref_null, if_false, ne_eq, not_true_eq_false, not_false_eq_true, decide_true, decide_false, decide_not, Bool.true_and, Bool.false_and, Bool.and_true, Bool.and_false, Bool.true_or, Bool.false_or, Bool.or_true, Bool.or_false, Bool.not_true, Bool.not_false, Bool.false_eq_true, bI_t, bI_f, Int.natCast_one, Int.cast_ofNat_Int, Int.natCast_zero, ju_self, ju_ne, h0, f3, h6, e]
    try rw [if_pos (by omega)]
/-- a word or a number, letter by letter; k: how many are there -/
theorem go_221 (K : RdK F E tp g z l) (ha : F a = none) (hs : F sb = none) (hsa : sb ≠ a) {c1 : Int32} {s : Bool} {sg : Int} (sg0 : 0 ≤ sg) : ∀ (m k : Nat) (H : AH) (f : Nat → Value) (b : List Int) (num : Int) (good : Bool), Fzn F H → a < H.1 → sb < H.1 → RdO H a t n f tp sc z l (sg + k) → f 6 = .int (zI sg) → f 7 = .int (zI num) → jm H sb = some (cSB 16 b) → SbW b → b.length = min 7 k → sg + k ≤ z → en g z (sg + k) = sg + k + m →
    ∃ (H2 : AH) (f2 : Nat → Value), G2 (d + 1) 8004 221 [.ref a, .int c1, .int (zI (bZ s)), .int (zI (bZ good)), .ref sb] [] H = some (.inl none, H2) ∧ Fr H H2 (fun q => q = a ∨ q = sb) ∧ H2.1 = H.1 + 2 ∧ H2.2.1 = H.2.1 + 4 + (b.length + min (7 - k) m) ∧ RdO H2 a t n f2 tp sc z l (sg + k + m) ∧ (∀ i, i ≠ 3 → i ≠ 5 → i ≠ 7 → i ≠ 9 → f2 i = f i) ∧
      f2 5 = .int (zI (if (good && allF g z s m (sg + k)) = true ∧ ((k + m : Nat) : Int) ≤ (if s = true then 7 else 3) then (if s = true then 2 else 3) else 1)) ∧ f2 7 = .int (zI (nmF g z (min (3 - k) m) (sg + k) num)) ∧ f2 9 = .ref H.1 ∧
      jm H2 H.1 = some (50, 4, jL [.ref (H.1 + 1), .int 0, .int 0, .int 0]) ∧ jm H2 (H.1 + 1) = some (1010, (b ++ wdB g z (min (7 - k) m) (sg + k)).length, fun i => .int (zI ((b ++ wdB g z (min (7 - k) m) (sg + k)).getD i 0))) ∧ SbW (b ++ wdB g z (min (7 - k) m) (sg + k)) := by
  have kz := K.2.2.1
  intro m
  induction m with
  | zero =>
    intro k H f b num good hF al sl h h6 h7 hb hw hl pz he
    obtain ⟨t1, t2⟩ := h.tg
    have by_ := c_byteAt (d := d) K hF h (p := sg + k) (by omega) (by omega)
    have br := bya_rg g z (sg + k)
    have le := c_isLet (d := d) (H := H) (c := bya g z (sg + k)) ⟨by omega, by omega⟩
    have dg := c_isDig (d := d) (H := H) (c := bya g z (sg + k)) ⟨by omega, by omega⟩
    have na : alnum (tpk g z (sg + k)) = false := by
      cases e : alnum (tpk g z (sg + k)) with
      | false => rfl
      | true =>
        rw [en_step, if_pos e] at he
        have := en_ge (g := g) (z := z) (p := sg + k + 1)
        omega
    have ns : small (tpk g z (sg + k)) = false ∧ digit (tpk g z (sg + k)) = false := by
      unfold alnum at na
      simp only [Bool.or_eq_false_iff] at na
      exact na
    rw [bya_sm, ns.1, bZ_f] at le
    rw [bya_dg, ns.2, bZ_f] at dg
    obtain ⟨h0, ht, f0, f1, f2, f3, f4⟩ := id h
    have ss := h_sstr (d := d) hb hw (by omega) (by omega)
    obtain ⟨HS, hHS⟩ : ∃ HS, HS = jpush (jpush H (50, 4, jL [.ref (H.1 + 1), .int 0, .int 0, .int 0])) (1010, b.length, fun i => .int (zI (b.getD i 0))) := ⟨_, rfl⟩
    rw [← hHS] at ss
    have s0 : jm HS a = some (t, n, f) := by rw [hHS, jm_p2 (by show a ≠ H.1 + 1; omega), jm_p2 (by omega)]; exact h0
    have s1 : jm HS H.1 = some (50, 4, jL [.ref (H.1 + 1), .int 0, .int 0, .int 0]) := by rw [hHS, jm_p2 (by show H.1 ≠ H.1 + 1; omega), jm_p1]
    have s2 : jm HS (H.1 + 1) = some (1010, b.length, fun i => .int (zI (b.getD i 0))) := by rw [hHS]; exact jm_p1 (h := jpush H _)
    have kv : ∃ kv : Int, kv = (if (good && allF g z s 0 (sg + k)) = true ∧ ((k + 0 : Nat) : Int) ≤ (if s = true then 7 else 3) then (if s = true then 2 else 3) else 1) := ⟨_, rfl⟩
    obtain ⟨kv, hkv⟩ := kv
    have run : G2 (d + 1) 8004 221 [.ref a, .int c1, .int (zI (bZ s)), .int (zI (bZ good)), .ref sb] [] H = some (.inl none, jset HS a (t, n, ju (ju f 9 (.ref H.1)) 5 (.int (zI kv)))) := by
      have e : sg + (k : Int) - sg = k := by omega
      rw [F8004_221]
      cases good with
      | false =>
        have : kv = 1 := by rw [hkv, if_neg (by simp)]
        subst this
        simp (disch := first | assumption | omega | decide | exact okF_i | exact okF_r | exact okF_n | exact okF_j | rfl) only [jc_ref, rI_int, rR_ref, rR_null, rJ_long, ckR_ref, ckR_null, ckr_ref, ckr_null, ckW_int, ckW_ref, ckW_null, cI_ok, cR_ok, cR_null, cV_ok, cJ_ok, qH_eq, qD_in, aG_ref, aS_ref, aL_ref, pF_ref, cK_ref, cK_null, zI_lit, zJ_lit, zI_add, zI_sub, zI_mul, zI_neg, zI_eq, zI_lt, zI_le, Int.reduceLT, Int.reduceLE, Int.reduceAdd, Int.reduceSub, Int.reduceMul, Int.reduceNeg, Int.reduceEq, Int.reduceNe, reduceIte, jf_in, pFc_in, aGi, aGb, aSi, aLc_in, cKc_in, nA_in, jm_s1, jm_s2, jm_p1, jm_p2, jm_b, jn_b, jn_s, jn_p, jset_jset, jset_jpush2, ckR_is, ckr_is, rR_is, ckW_is, cR_is, obi2, ckW_int, eq_self, if_true, ref_null, if_false, ne_eq, not_true_eq_false, not_false_eq_true, decide_true, decide_false, decide_not, Bool.true_and, Bool.false_and, Bool.and_true, Bool.and_false, Bool.true_or, Bool.false_or, Bool.or_true, Bool.or_false, Bool.not_true, Bool.not_false, Bool.false_eq_true, bI_t, bI_f, Int.natCast_one, Int.cast_ofNat_Int, Int.natCast_zero, ju_self, ju_ne, h0, f3, by_, le, dg, ss, s0, bZ_f]
        try rw [if_pos rfl]
      | true =>
        have ea : allF g z s 0 (sg + k) = true := rfl
        rw [ea] at hkv
        cases s with
        | false =>
          by_cases c : k ≤ 3
          · have : kv = 3 := by rw [hkv, if_pos ⟨rfl, by simp; omega⟩]; rfl
            subst this
            simp (disch := first | assumption | omega | decide | exact okF_i | exact okF_r | exact okF_n | exact okF_j | rfl) only [jc_ref, rI_int, rR_ref, rR_null, rJ_long, ckR_ref, ckR_null, ckr_ref, ckr_null, ckW_int, ckW_ref, ckW_null, cI_ok, cR_ok, cR_null, cV_ok, cJ_ok, qH_eq, qD_in, aG_ref, aS_ref, aL_ref, pF_ref, cK_ref, cK_null, zI_lit, zJ_lit, zI_add, zI_sub, zI_mul, zI_neg, zI_eq, zI_lt, zI_le, Int.reduceLT, Int.reduceLE, Int.reduceAdd, Int.reduceSub, Int.reduceMul, Int.reduceNeg, Int.reduceEq, Int.reduceNe, reduceIte, jf_in, pFc_in, aGi, aGb, aSi, aLc_in, cKc_in, nA_in, jm_s1, jm_s2, jm_p1, jm_p2, jm_b, jn_b, jn_s, jn_p, jset_jset, jset_jpush2, ckR_is, ckr_is, rR_is, ckW_is, cR_is, obi2, ckW_int, eq_self, if_true, ref_null, if_false, ne_eq, not_true_eq_false, not_false_eq_true, decide_true, decide_false, decide_not, Bool.true_and, Bool.false_and, Bool.and_true, Bool.and_false, Bool.true_or, Bool.false_or, Bool.or_true, Bool.or_false, Bool.not_true, Bool.not_false, Bool.false_eq_true, bI_t, bI_f, Int.natCast_one, Int.cast_ofNat_Int, Int.natCast_zero, ju_self, ju_ne, h0, f3, by_, le, dg, ss, s0, bZ_f, bZ_t, h6, e]
            exact if_pos (by omega)
          · have : kv = 1 := by rw [hkv, if_neg (by simp; omega)]
            subst this
            simp (disch := first | assumption | omega | decide | exact okF_i | exact okF_r | exact okF_n | exact okF_j | rfl) only [jc_ref, rI_int, rR_ref, rR_null, rJ_long, ckR_ref, ckR_null, ckr_ref, ckr_null, ckW_int, ckW_ref, ckW_null, cI_ok, cR_ok, cR_null, cV_ok, cJ_ok, qH_eq, qD_in, aG_ref, aS_ref, aL_ref, pF_ref, cK_ref, cK_null, zI_lit, zJ_lit, zI_add, zI_sub, zI_mul, zI_neg, zI_eq, zI_lt, zI_le, Int.reduceLT, Int.reduceLE, Int.reduceAdd, Int.reduceSub, Int.reduceMul, Int.reduceNeg, Int.reduceEq, Int.reduceNe, reduceIte, jf_in, pFc_in, aGi, aGb, aSi, aLc_in, cKc_in, nA_in, jm_s1, jm_s2, jm_p1, jm_p2, jm_b, jn_b, jn_s, jn_p, jset_jset, jset_jpush2, ckR_is, ckr_is, rR_is, ckW_is, cR_is, obi2, ckW_int, eq_self, if_true, ref_null, if_false, ne_eq, not_true_eq_false, not_false_eq_true, decide_true, decide_false, decide_not, Bool.true_and, Bool.false_and, Bool.and_true, Bool.and_false, Bool.true_or, Bool.false_or, Bool.or_true, Bool.or_false, Bool.not_true, Bool.not_false, Bool.false_eq_true, bI_t, bI_f, Int.natCast_one, Int.cast_ofNat_Int, Int.natCast_zero, ju_self, ju_ne, h0, f3, by_, le, dg, ss, s0, bZ_f, bZ_t, h6, e]
            exact if_neg (by omega)
        | true =>
          by_cases c : k ≤ 7
          · have : kv = 2 := by rw [hkv, if_pos ⟨rfl, by simp; omega⟩]; rfl
            subst this
            simp (disch := first | assumption | omega | decide | exact okF_i | exact okF_r | exact okF_n | exact okF_j | rfl) only [jc_ref, rI_int, rR_ref, rR_null, rJ_long, ckR_ref, ckR_null, ckr_ref, ckr_null, ckW_int, ckW_ref, ckW_null, cI_ok, cR_ok, cR_null, cV_ok, cJ_ok, qH_eq, qD_in, aG_ref, aS_ref, aL_ref, pF_ref, cK_ref, cK_null, zI_lit, zJ_lit, zI_add, zI_sub, zI_mul, zI_neg, zI_eq, zI_lt, zI_le, Int.reduceLT, Int.reduceLE, Int.reduceAdd, Int.reduceSub, Int.reduceMul, Int.reduceNeg, Int.reduceEq, Int.reduceNe, reduceIte, jf_in, pFc_in, aGi, aGb, aSi, aLc_in, cKc_in, nA_in, jm_s1, jm_s2, jm_p1, jm_p2, jm_b, jn_b, jn_s, jn_p, jset_jset, jset_jpush2, ckR_is, ckr_is, rR_is, ckW_is, cR_is, obi2, ckW_int, eq_self, if_true, ref_null, if_false, ne_eq, not_true_eq_false, not_false_eq_true, decide_true, decide_false, decide_not, Bool.true_and, Bool.false_and, Bool.and_true, Bool.and_false, Bool.true_or, Bool.false_or, Bool.or_true, Bool.or_false, Bool.not_true, Bool.not_false, Bool.false_eq_true, bI_t, bI_f, Int.natCast_one, Int.cast_ofNat_Int, Int.natCast_zero, ju_self, ju_ne, h0, f3, by_, le, dg, ss, s0, bZ_f, bZ_t, h6, e]
            exact if_pos (by omega)
          · have : kv = 1 := by rw [hkv, if_neg (by simp; omega)]
            subst this
            simp (disch := first | assumption | omega | decide | exact okF_i | exact okF_r | exact okF_n | exact okF_j | rfl) only [jc_ref, rI_int, rR_ref, rR_null, rJ_long, ckR_ref, ckR_null, ckr_ref, ckr_null, ckW_int, ckW_ref, ckW_null, cI_ok, cR_ok, cR_null, cV_ok, cJ_ok, qH_eq, qD_in, aG_ref, aS_ref, aL_ref, pF_ref, cK_ref, cK_null, zI_lit, zJ_lit, zI_add, zI_sub, zI_mul, zI_neg, zI_eq, zI_lt, zI_le, Int.reduceLT, Int.reduceLE, Int.reduceAdd, Int.reduceSub, Int.reduceMul, Int.reduceNeg, Int.reduceEq, Int.reduceNe, reduceIte, jf_in, pFc_in, aGi, aGb, aSi, aLc_in, cKc_in, nA_in, jm_s1, jm_s2, jm_p1, jm_p2, jm_b, jn_b, jn_s, jn_p, jset_jset, jset_jpush2, ckR_is, ckr_is, rR_is, ckW_is, cR_is, obi2, ckW_int, eq_self, if_true, ref_null, if_false, ne_eq, not_true_eq_false, not_false_eq_true, decide_true, decide_false, decide_not, Bool.true_and, Bool.false_and, Bool.and_true, Bool.and_false, Bool.true_or, Bool.false_or, Bool.or_true, Bool.or_false, Bool.not_true, Bool.not_false, Bool.false_eq_true, bI_t, bI_f, Int.natCast_one, Int.cast_ofNat_Int, Int.natCast_zero, ju_self, ju_ne, h0, f3, by_, le, dg, ss, s0, bZ_f, bZ_t, h6, e]
            exact if_neg (by omega)
    have wz : b ++ wdB g z (min (7 - k) 0) (sg + k) = b := by rw [Nat.min_zero]; show b ++ [] = b; rw [List.append_nil]
    refine ⟨_, ju (ju f 9 (.ref H.1)) 5 (.int (zI kv)), run, ?_, ?_, ?_, ?_, ?_, ?_, ?_, ?_, ?_, ?_, ?_⟩
    · have f1 : Fr H HS (fun q => q = a ∨ q = sb) := by rw [hHS]; exact Fr.push.tr Fr.push
      exact f1.tr (Fr.set (Or.inl rfl))
    · rw [hHS]; rfl
    · rw [hHS, Nat.min_zero]; rfl
    · have := h.up (p2 := sg + k + (0 : Nat)) (f2 := ju (ju f 9 (.ref H.1)) 5 (.int (zI kv))) (H2 := jset HS a (t, n, ju (ju f 9 (.ref H.1)) 5 (.int (zI kv)))) jm_s1 ((ju_ne (by decide)).trans (ju_ne (by decide))) ((ju_ne (by decide)).trans (ju_ne (by decide))) ((ju_ne (by decide)).trans (ju_ne (by decide))) (((ju_ne (by decide)).trans (ju_ne (by decide))).trans (by rw [f3]; congr 2; omega)) ((ju_ne (by decide)).trans (ju_ne (by decide)))
      exact this
    · intro i i3 i5 i7 i9
      rw [ju_ne i5, ju_ne i9]
    · rw [ju_self, hkv]
    · rw [ju_ne (by decide), ju_ne (by decide), Nat.min_zero]; exact h7
    · rw [ju_ne (by decide), ju_self]
    · rw [jm_s2 (by omega)]; exact s1
    · rw [jm_s2 (by omega), wz]; exact s2
    · rw [wz]; exact hw
  | succ m ih =>
    intro k H f b num good hF al sl h h6 h7 hb hw hl pz he
    have ha1 : alnum (tpk g z (sg + k)) = true := by
      cases e : alnum (tpk g z (sg + k)) with
      | true => rfl
      | false => rw [en_step, if_neg (by rw [e]; decide)] at he; omega
    have hz := alnum_in ha1
    have ap := alnum_pos ha1
    have La := go_La (d := d) (sb := sb) (c1 := c1) (s := s) (good := good) K hF h (by omega) (by omega) ha1
    have Lb := go_Lb (d := d) (c1 := c1) (s := s) (good := good) (x := zI (bZ (good && (small (tpk g z (sg + k)) == s)))) K hF h h6 sg0 (by omega) ha1 hb hw hl
    obtain ⟨H1, hH1⟩ : ∃ H1, H1 = (if k < 7 then jset H sb (cSB 16 (b ++ [tpk g z (sg + k)])) else H) := ⟨_, rfl⟩
    rw [← hH1] at Lb
    obtain ⟨b1, hb1⟩ : ∃ b1, b1 = (if k < 7 then b ++ [tpk g z (sg + k)] else b) := ⟨_, rfl⟩
    have r1 : Fr H H1 (fun q => q = a ∨ q = sb) := by
      rw [hH1]; split
      · exact Fr.set (Or.inr rfl)
      · exact Fr.rf
    have m1 : jm H1 sb = some (cSB 16 b1) := by
      rw [hH1, hb1]; split
      · exact jm_s1
      · exact hb
    have m0 : jm H1 a = some (t, n, f) := by
      rw [hH1]; split
      · exact (jm_s2 (Ne.symm hsa)).trans h.1
      · exact h.1
    have n1 : H1.1 = H.1 ∧ H1.2.1 = H.2.1 := by
      rw [hH1]; split <;> exact ⟨rfl, rfl⟩
    have w1 : SbW b1 := by
      rw [hb1]; split
      · intro u hu
        rcases List.mem_append.mp hu with hu | hu
        · exact hw u hu
        · rw [List.mem_singleton] at hu; subst hu; omega
      · exact hw
    have l1 : b1.length = min 7 (k + 1) := by
      rw [hb1]; split
      · rw [List.length_append, hl]; simp; omega
      · omega
    have hF1 : Fzn F H1 := hF.fr r1 (fun q hq => by rcases hq with e | e <;> subst e <;> assumption)
    have h1 : RdO H1 a t n f tp sc z l (sg + k) := ⟨m0, h.2⟩
    have Lc := go_Lc (d := d) (sb := sb) (c1 := c1) (s := s) (x := zI (bZ (good && (small (tpk g z (sg + k)) == s)))) K hF1 h1 h6 h7 sg0 (by omega) ha1
    obtain ⟨nm2, hnm⟩ : ∃ nm2, nm2 = (if k < 3 then 10 * num + tpk g z (sg + k) - 48 else num) := ⟨_, rfl⟩
    rw [← hnm] at Lc
    have c1' : ((k + 1 : Nat) : Int) = (k : Int) + 1 := by omega
    have h2 : RdO (jset H1 a (t, n, ju (ju f 7 (.int (zI nm2))) 3 (.int (zI (sg + k + 1))))) a t n (ju (ju f 7 (.int (zI nm2))) 3 (.int (zI (sg + k + 1)))) tp sc z l (sg + (k + 1 : Nat)) := h1.up jm_s1 ((ju_ne (by decide)).trans (ju_ne (by decide))) ((ju_ne (by decide)).trans (ju_ne (by decide))) ((ju_ne (by decide)).trans (ju_ne (by decide))) (by rw [ju_self, c1', Int.add_assoc]) ((ju_ne (by decide)).trans (ju_ne (by decide)))
    have r2 : Fr H1 (jset H1 a (t, n, ju (ju f 7 (.int (zI nm2))) 3 (.int (zI (sg + k + 1))))) (fun q => q = a ∨ q = sb) := Fr.set (Or.inl rfl)
    have es : en g z (sg + (k + 1 : Nat)) = sg + (k + 1 : Nat) + m := by
      rw [en_step, if_pos ha1] at he
      rw [c1', ← Int.add_assoc, he]; omega
    obtain ⟨H2, f2, i1, i2, i3, i4, i5, i6, i7, i8, i9, i10, i11, i12⟩ := ih (k + 1) _ _ b1 nm2 (good && (small (tpk g z (sg + k)) == s)) (hF1.fr r2 (fun q hq => by rcases hq with e | e <;> subst e <;> assumption)) (by rw [jn_s, n1.1]; exact al) (by rw [jn_s, n1.1]; exact sl) h2 ((ju_ne (by decide)).trans ((ju_ne (by decide)).trans h6)) ((ju_ne (by decide)).trans ju_self) ((jm_s2 hsa).trans m1) w1 l1 (by omega) es
    have n2 : (jset H1 a (t, n, ju (ju f 7 (.int (zI nm2))) 3 (.int (zI (sg + k + 1))))).1 = H.1 := n1.1
    have n3 : (jset H1 a (t, n, ju (ju f 7 (.int (zI nm2))) 3 (.int (zI (sg + k + 1))))).2.1 = H.2.1 := n1.2
    rw [n2] at i3 i9 i10 i11
    rw [n3] at i4
    have ew : b1 ++ wdB g z (min (7 - (k + 1)) m) (sg + (k + 1 : Nat)) = b ++ wdB g z (min (7 - k) (m + 1)) (sg + k) := by
      rw [hb1]
      by_cases c : k < 7
      · rw [if_pos c, show min (7 - k) (m + 1) = min (7 - (k + 1)) m + 1 by omega, c1', ← Int.add_assoc]
        show b ++ [tpk g z (sg + k)] ++ _ = b ++ (tpk g z (sg + k) :: wdB g z (min (7 - (k + 1)) m) (sg + k + 1))
        simp
      · rw [if_neg c, show min (7 - k) (m + 1) = 0 by omega, show min (7 - (k + 1)) m = 0 by omega]; rfl
    rw [ew] at i11 i12
    refine ⟨H2, f2, La.trans (Lb.trans (Lc.trans i1)), r1.tr (r2.tr i2), i3, ?_, ?_, ?_, ?_, ?_, i9, i10, i11, i12⟩
    · rw [i4]
      have := congrArg List.length ew
      rw [List.length_append, List.length_append, wdB_len, wdB_len] at this
      omega
    · rw [show sg + (k : Int) + ((m + 1 : Nat) : Int) = sg + ((k + 1 : Nat) : Int) + m by omega]; exact i5
    · intro i e3 e5 e7 e9
      rw [i6 i e3 e5 e7 e9, ju_ne e3, ju_ne e7]
    · rw [i7, show k + 1 + m = k + (m + 1) by omega, c1', ← Int.add_assoc]
      show Value.int (zI (if (good && (small (tpk g z (sg + k)) == s) && allF g z s m (sg + k + 1)) = true ∧ _ then _ else _)) = Value.int (zI (if (good && ((small (tpk g z (sg + k)) == s) && allF g z s m (sg + k + 1))) = true ∧ _ then _ else _))
      rw [Bool.and_assoc]
      rfl
    · rw [i8, c1', ← Int.add_assoc, hnm]
      by_cases c : k < 3
      · rw [if_pos c, show min (3 - k) (m + 1) = min (3 - (k + 1)) m + 1 by omega]; rfl
      · rw [if_neg c, show min (3 - k) (m + 1) = 0 by omega, show min (3 - (k + 1)) m = 0 by omega]; rfl
end
