/-! the component's reader: numbers, signs, values; names of tables and of columns -/
-- jc_ref, rI_int, rR_ref, rR_null, rJ_long, ckR_ref, ckR_null, ckr_ref, ckr_null, ckW_int, ckW_ref, ckW_null, cI_ok, cR_ok, cR_null, cV_ok, cJ_ok, qH_eq, qD_in, aG_ref, aS_ref, aL_ref, pF_ref, cK_ref, cK_null, zI_lit, zJ_lit, zI_add, zI_sub, zI_mul, zI_neg, zI_eq, zI_lt, zI_le, Int.reduceLT, Int.reduceLE, Int.reduceAdd, Int.reduceSub, Int.reduceMul, Int.reduceNeg, Int.reduceEq, Int.reduceNe, reduceIte, jf_in, pFc_in, aGi, aGb, aSi, aLc_in, cKc_in, nA_in, jm_s1, jm_s2, jm_p1, jm_p2, jm_b, jn_b, jn_s, jn_p, jset_jset, jset_jpush2, ckR_is, ckr_is, rR_is, ckW_is, cR_is, obi2, ckW_int, eq_self, if_true, ref_null, if_false, ne_eq, not_true_eq_false, not_false_eq_true, decide_true, decide_false, decide_not, Bool.true_and, Bool.false_and, Bool.and_true, Bool.and_false, Bool.true_or, Bool.false_or, Bool.or_true, Bool.or_false, Bool.not_true, Bool.not_false, Bool.false_eq_true, bI_t, bI_f, Int.natCast_one, Int.cast_ofNat_Int, Int.natCast_zero, ju_self, ju_ne = jc_ref, rI_int, rR_ref, rR_null, rJ_long, ckR_ref, ckR_null, ckr_ref, ckr_null, ckW_int, ckW_ref, ckW_null, cI_ok, cR_ok, cR_null, cV_ok, cJ_ok, qH_eq, qD_in, aG_ref, aS_ref, aL_ref, pF_ref, cK_ref, cK_null, zI_lit, zJ_lit, zI_add, zI_sub, zI_mul, zI_neg, zI_eq, zI_lt, zI_le, Int.reduceLT, Int.reduceLE, Int.reduceAdd, Int.reduceSub, Int.reduceMul, Int.reduceNeg, Int.reduceEq, Int.reduceNe, reduceIte, jf_in, pFc_in, aGi, aGb, aSi, aLc_in, cKc_in, nA_in, jm_s1, jm_s2, jm_p1, jm_p2, jm_b, jn_b, jn_s, jn_p, jset_jset, jset_jpush2, ckR_is, ckr_is, rR_is, ckW_is, cR_is, obi2, ckW_int, eq_self, if_true, ref_null, if_false, ne_eq, not_true_eq_false, not_false_eq_true, decide_true, decide_false, decide_not, Bool.true_and, Bool.false_and, Bool.and_true, Bool.and_false, Bool.true_or, Bool.false_or, Bool.or_true, Bool.or_false, Bool.not_true, Bool.not_false, Bool.false_eq_true, bI_t, bI_f, Int.natCast_one, Int.cast_ofNat_Int, Int.natCast_zero, ju_self, ju_ne
/-- names of columns, of tables, as a heap has them -/
def ColN (H : AH) (qc : Nat) (n o : Int) (nm : Int → Int) : Prop := ∃ (cap : Nat) (mc : Int32) (lst : List Value), jm H qc = some (cAL cap mc lst) ∧ cap < 1000 ∧ lst.length < 1000 ∧ (lst.length : Int) = n ∧ ∀ c : Int, 0 ≤ c → c < n → ∃ u, lst.getD c.toNat .null = .ref u ∧ ∃ s, StrAt H u s ∧ NmB s ∧ pk s = nm (o + c)
def TabN (H : AH) (b : Nat) (t : Int) (S nm : Int → Int) : Prop := ∃ (m : Nat) (fb : Nat → Value) (qn qc : Nat), jm H b = some (11, m, fb) ∧ fb 0 = .ref qn ∧ fb 1 = .ref qc ∧ (∃ s, StrAt H qn s ∧ NmB s ∧ pk s = nm t) ∧ ColN H qc (S (4 + t)) (4 + 4 * t) nm
def SchN (H : AH) (q : Nat) (S nm : Int → Int) : Prop := ∃ (n : Nat) (f : Nat → Value) (qt cap : Nat) (mc : Int32) (lst : List Value), jm H q = some (3, n, f) ∧ f 1 = .ref qt ∧ jm H qt = some (cAL cap mc lst) ∧ cap < 1000 ∧ lst.length < 1000 ∧ (lst.length : Int) = S 0 ∧ ∀ t : Int, 0 ≤ t → t < S 0 → ∃ b, lst.getD t.toNat .null = .ref b ∧ TabN H b t S nm
theorem SchF.n {F : Nat → Option Cl} {H : AH} {q : Nat} {S nm : Int → Int} (h : SchF F q S nm) (hF : Fzn F H) : SchN H q S nm := by
  obtain ⟨ln, qt, qk, qr, qc, a1, ⟨cap, mc, lst, b1, b2, b3, b4, b5⟩, -⟩ := h
  refine ⟨_, _, qt, cap, mc, lst, hF.m a1, rfl, hF.m b1, b2, b3, b4, fun t t0 t1 => ?_⟩
  obtain ⟨b, c1, qn, qc, qd, qb, d1, ⟨s, d2, d3, d4⟩, ⟨cap2, mc2, l2, e1, e2, e3, e4, e5⟩, -⟩ := b5 t t0 t1
  refine ⟨b, c1, _, _, qn, qc, hF.m d1, rfl, rfl, ⟨s, d2.at hF, d3, d4⟩, cap2, mc2, l2, hF.m e1, e2, e3, e4, fun c c0 c1 => ?_⟩
  obtain ⟨u, f1, s, f2, f3, f4⟩ := e5 c c0 c1
  exact ⟨u, f1, s, f2.at hF, f3, f4⟩
theorem fnd_cg {f f' : Int → Bool} : ∀ (n : Nat) (k : Int), (∀ i, k ≤ i → i < k + n → f i = f' i) → fnd f n k = fnd f' n k
  | 0, _, _ => rfl
  | n + 1, k, h => by
    simp only [fnd]
    rw [h k (Int.le_refl _) (by omega), fnd_cg n (k + 1) fun i a b => h i (by omega) (by omega)]
theorem fstS_fnd {s : List Int} (hs : NmB s) {f : Int → Bool} : ∀ (L : List (List Int)) (k : Nat), (∀ (i : Nat) (x : List Int), L[i]? = some x → (x = s ↔ f ((k : Int) + i) = true)) → fstS s L k = fnd f L.length k
  | [], k, _ => rfl
  | x :: L, k, h => by
    have h0 := h 0 x rfl
    rw [show (k : Int) + ((0 : Nat) : Int) = k by omega] at h0
    have ih := fstS_fnd hs (f := f) L (k + 1) fun i y hy => by
      have := h (i + 1) y hy
      rw [show (k : Int) + ((i + 1 : Nat) : Int) = ((k + 1 : Nat) : Int) + i by omega] at this
      exact this
    show (if x = s then (k : Int) else fstS s L (k + 1)) = (if f k = true then (k : Int) else fnd f L.length (k + 1))
    by_cases e : x = s
    · rw [if_pos e, if_pos (h0.mp e)]
    · rw [if_neg e, if_neg (fun u => e (h0.mpr u)), ih]
      rw [show ((k + 1 : Nat) : Int) = (k : Int) + 1 by omega]
section
variable {d : Nat} {H H2 : AH} {a b t n tp sc w c s c2 s2 : Nat} {f : Nat → Value} {g : Int → Int} {z l p q low high k o : Int} {F : Nat → Option Cl} {B P Q : Nat → Prop} {x y : Value} {S nm : Int → Int} {sw : List Int}
/-- the place of a column's name -/
theorem c_colFind (h : TabN H b k S nm) (hw : StrAt H w sw) (hn : NmB sw) : M2 (d + 2) 11000 [.ref b, .ref w] H = some (.inl (some (.int (zI (fnd (fun c => decide (nm (4 + 4 * k + c) = pk sw)) (S (4 + k)).toNat 0)))), H) := by
  obtain ⟨m, fb, qn, qc, h1, h2, h3, -, cap, mc, lst, c1, c2, c3, c4, c5⟩ := h
  have hL : ∃ L : List (List Int), AllS H lst L ∧ ∀ (i : Nat) (y : List Int), L[i]? = some y → NmB y ∧ pk y = nm (4 + 4 * k + i) := by
    have key : ∀ (m : Nat), m ≤ lst.length → ∃ L : List (List Int), L.length = m ∧ (∀ (i : Nat), i < m → ∃ u, lst.getD i .null = .ref u ∧ StrAt H u (L.getD i [])) ∧ ∀ (i : Nat) (y : List Int), L[i]? = some y → NmB y ∧ pk y = nm (4 + 4 * k + i) := by
      intro m
      induction m with
      | zero => intro _; exact ⟨[], rfl, fun i hi => by omega, fun i y hy => by simp at hy⟩
      | succ m ih =>
        intro hm
        obtain ⟨L, l1, l2, l3⟩ := ih (by omega)
        obtain ⟨u, u1, sx, u2, u3, u4⟩ := c5 (m : Int) (by omega) (by omega)
        rw [Int.toNat_natCast] at u1
        refine ⟨L ++ [sx], by rw [List.length_append, l1]; rfl, fun i hi => ?_, fun i y hy => ?_⟩
        · by_cases e : i < m
          · obtain ⟨v, v1, v2⟩ := l2 i e
            refine ⟨v, v1, ?_⟩
            rw [List.getD_eq_getElem?_getD, List.getElem?_append_left (by omega), ← List.getD_eq_getElem?_getD]; exact v2
          · have e : i = m := by omega
            subst e
            refine ⟨u, u1, ?_⟩
            rw [List.getD_eq_getElem?_getD, List.getElem?_append_right (by omega), l1, Nat.sub_self]; exact u2
        · by_cases e : i < m
          · rw [List.getElem?_append_left (by omega)] at hy; exact l3 i y hy
          · rw [List.getElem?_append_right (by omega)] at hy
            have e2 : i = m := by
              have := (List.getElem?_eq_some_iff.mp hy).1
              simp at this; omega
            subst e2
            rw [l1, Nat.sub_self] at hy
            simp at hy
            subst hy
            exact ⟨u3, u4⟩
    obtain ⟨L, l1, l2, l3⟩ := key lst.length (Nat.le_refl _)
    exact ⟨L, ⟨l1.symm, fun i hi => l2 i (by omega)⟩, l3⟩
  obtain ⟨L, hA, hN⟩ := hL
  have ix := h_index (d := d) c1 (by omega) hw hA
  have e := fstS_fnd hn (f := fun c => decide (nm (4 + 4 * k + c) = pk sw)) L 0 fun i y hy => by
    obtain ⟨y1, y2⟩ := hN i y hy
    rw [y1.inj hn, y2, decide_eq_true_eq, show ((0 : Nat) : Int) + (i : Int) = i by omega]
  have el : L.length = (S (4 + k)).toNat := by have := hA.1; omega
  rw [e, el] at ix
  have rv : (jtRecv 11000).elem 11 = true := rfl
  rw [Y11000 H rfl (jrecv_in h1 rv), F11000_0]
  have e0 : ((0 : Nat) : Int) = 0 := rfl
  rw [e0] at ix
  simp (disch := first | assumption | omega | decide | exact okF_i | exact okF_r | exact okF_n | exact okF_j | rfl) only [jc_ref, rI_int, rR_ref, rR_null, rJ_long, ckR_ref, ckR_null, ckr_ref, ckr_null, ckW_int, ckW_ref, ckW_null, cI_ok, cR_ok, cR_null, cV_ok, cJ_ok, qH_eq, qD_in, aG_ref, aS_ref, aL_ref, pF_ref, cK_ref, cK_null, zI_lit, zJ_lit, zI_add, zI_sub, zI_mul, zI_neg, zI_eq, zI_lt, zI_le, Int.reduceLT, Int.reduceLE, Int.reduceAdd, Int.reduceSub, Int.reduceMul, Int.reduceNeg, Int.reduceEq, Int.reduceNe, reduceIte, jf_in, pFc_in, aGi, aGb, aSi, aLc_in, cKc_in, nA_in, jm_s1, jm_s2, jm_p1, jm_p2, jm_b, jn_b, jn_s, jn_p, jset_jset, jset_jpush2, ckR_is, ckr_is, rR_is, ckW_is, cR_is, obi2, ckW_int, eq_self, if_true, ref_null, if_false, ne_eq, not_true_eq_false, not_false_eq_true, decide_true, decide_false, decide_not, Bool.true_and, Bool.false_and, Bool.and_true, Bool.and_false, Bool.true_or, Bool.false_or, Bool.or_true, Bool.or_false, Bool.not_true, Bool.not_false, Bool.false_eq_true, bI_t, bI_f, Int.natCast_one, Int.cast_ofNat_Int, Int.natCast_zero, ju_self, ju_ne, h1, h3, ix]
/-- the place of a table's name -/
theorem c_tabFind (h : SchN H sc S nm) (hw : StrAt H w sw) (hn : NmB sw) : M2 (d + 3) 3001 [.ref sc, .ref w] H = some (.inl (some (.int (zI (fnd (fun t => decide (nm t = pk sw)) (S 0).toNat 0)))), H) := by
  obtain ⟨n, f, qt, cap, mc, lst, h1, h2, h3, h4, h5, h6, h7⟩ := h
  have sz := h_size (d := d + 1) h3
  have rv : (jtRecv 3001).elem 3 = true := rfl
  have key : ∀ (m : Nat) (i : Int), 0 ≤ i → i + m = S 0 → G2 (d + 2) 3001 2 [.ref sc, .ref w, .int (zI i)] [] H = some (.inl (some (.int (zI (fnd (fun t => decide (nm t = pk sw)) m i)))), H) := by
    intro m
    induction m with
    | zero =>
      intro i i0 hi
      rw [F3001_2]
      have le : (lst.length : Int) ≤ i := by omega
      simp (disch := first | assumption | omega | decide | exact okF_i | exact okF_r | exact okF_n | exact okF_j | rfl) only [jc_ref, rI_int, rR_ref, rR_null, rJ_long, ckR_ref, ckR_null, ckr_ref, ckr_null, ckW_int, ckW_ref, ckW_null, cI_ok, cR_ok, cR_null, cV_ok, cJ_ok, qH_eq, qD_in, aG_ref, aS_ref, aL_ref, pF_ref, cK_ref, cK_null, zI_lit, zJ_lit, zI_add, zI_sub, zI_mul, zI_neg, zI_eq, zI_lt, zI_le, Int.reduceLT, Int.reduceLE, Int.reduceAdd, Int.reduceSub, Int.reduceMul, Int.reduceNeg, Int.reduceEq, Int.reduceNe, reduceIte, jf_in, pFc_in, aGi, aGb, aSi, aLc_in, cKc_in, nA_in, jm_s1, jm_s2, jm_p1, jm_p2, jm_b, jn_b, jn_s, jn_p, jset_jset, jset_jpush2, ckR_is, ckr_is, rR_is, ckW_is, cR_is, obi2, ckW_int, eq_self, if_true, ref_null, if_false, ne_eq, not_true_eq_false, not_false_eq_true, decide_true, decide_false, decide_not, Bool.true_and, Bool.false_and, Bool.and_true, Bool.and_false, Bool.true_or, Bool.false_or, Bool.or_true, Bool.or_false, Bool.not_true, Bool.not_false, Bool.false_eq_true, bI_t, bI_f, Int.natCast_one, Int.cast_ofNat_Int, Int.natCast_zero, ju_self, ju_ne, h1, h2, sz]
      try rw [if_pos le]
      rfl
    | succ m ih =>
      intro i i0 hi
      have ge := h_get (d := d + 1) h3 i0 (by omega) (by omega) (by omega)
      obtain ⟨b, b1, m2, fb, qn, qc, t1, t2, -, ⟨s2, t3, t4, t5⟩, -⟩ := h7 i i0 (by omega)
      rw [b1] at ge
      have eq := h_streq (d := d + 1) t3 hw
      have le : ¬ (lst.length : Int) ≤ i := by omega
      have iff := t4.inj hn
      rw [t5] at iff
      have e11 : ([11] : List Nat).elem 11 = true := rfl
      show _ = (some (.inl (some (.int (zI (if decide (nm i = pk sw) = true then i else fnd (fun t => decide (nm t = pk sw)) m (i + 1))))), H) : Rz)
      by_cases e : s2 = sw
      · rw [decide_eq_true e] at eq
        rw [if_pos (by simpa using iff.mp e), F3001_2]
        simp (disch := first | assumption | omega | decide | exact okF_i | exact okF_r | exact okF_n | exact okF_j | rfl) only [jc_ref, rI_int, rR_ref, rR_null, rJ_long, ckR_ref, ckR_null, ckr_ref, ckr_null, ckW_int, ckW_ref, ckW_null, cI_ok, cR_ok, cR_null, cV_ok, cJ_ok, qH_eq, qD_in, aG_ref, aS_ref, aL_ref, pF_ref, cK_ref, cK_null, zI_lit, zJ_lit, zI_add, zI_sub, zI_mul, zI_neg, zI_eq, zI_lt, zI_le, Int.reduceLT, Int.reduceLE, Int.reduceAdd, Int.reduceSub, Int.reduceMul, Int.reduceNeg, Int.reduceEq, Int.reduceNe, reduceIte, jf_in, pFc_in, aGi, aGb, aSi, aLc_in, cKc_in, nA_in, jm_s1, jm_s2, jm_p1, jm_p2, jm_b, jn_b, jn_s, jn_p, jset_jset, jset_jpush2, ckR_is, ckr_is, rR_is, ckW_is, cR_is, obi2, ckW_int, eq_self, if_true, ref_null, if_false, ne_eq, not_true_eq_false, not_false_eq_true, decide_true, decide_false, decide_not, Bool.true_and, Bool.false_and, Bool.and_true, Bool.and_false, Bool.true_or, Bool.false_or, Bool.or_true, Bool.or_false, Bool.not_true, Bool.not_false, Bool.false_eq_true, bI_t, bI_f, Int.natCast_one, Int.cast_ofNat_Int, Int.natCast_zero, ju_self, ju_ne, h1, h2, sz, ge, t1, t2, eq]
        try rw [if_neg le]
      · rw [decide_eq_false e] at eq
        rw [if_neg (fun u => e (iff.mpr (by simpa using u))), ← ih (i + 1) (by omega) (by omega), F3001_2]
        simp (disch := first | assumption | omega | decide | exact okF_i | exact okF_r | exact okF_n | exact okF_j | rfl) only [jc_ref, rI_int, rR_ref, rR_null, rJ_long, ckR_ref, ckR_null, ckr_ref, ckr_null, ckW_int, ckW_ref, ckW_null, cI_ok, cR_ok, cR_null, cV_ok, cJ_ok, qH_eq, qD_in, aG_ref, aS_ref, aL_ref, pF_ref, cK_ref, cK_null, zI_lit, zJ_lit, zI_add, zI_sub, zI_mul, zI_neg, zI_eq, zI_lt, zI_le, Int.reduceLT, Int.reduceLE, Int.reduceAdd, Int.reduceSub, Int.reduceMul, Int.reduceNeg, Int.reduceEq, Int.reduceNe, reduceIte, jf_in, pFc_in, aGi, aGb, aSi, aLc_in, cKc_in, nA_in, jm_s1, jm_s2, jm_p1, jm_p2, jm_b, jn_b, jn_s, jn_p, jset_jset, jset_jpush2, ckR_is, ckr_is, rR_is, ckW_is, cR_is, obi2, ckW_int, eq_self, if_true, ref_null, if_false, ne_eq, not_true_eq_false, not_false_eq_true, decide_true, decide_false, decide_not, Bool.true_and, Bool.false_and, Bool.and_true, Bool.and_false, Bool.true_or, Bool.false_or, Bool.or_true, Bool.or_false, Bool.not_true, Bool.not_false, Bool.false_eq_true, bI_t, bI_f, Int.natCast_one, Int.cast_ofNat_Int, Int.natCast_zero, ju_self, ju_ne, h1, h2, sz, ge, t1, t2, eq]
        try rw [if_neg le]
  have k0 := key (S 0).toNat 0 (Int.le_refl _) (by omega)
  rw [Y3001 H rfl (jrecv_in h1 rv), F3001_0]
  exact k0
theorem RdC.fs (h : RdC B H a t n tp sc g z l x y q) : ∃ f, jm H a = some (t, n, f) ∧ ([9, 15, 27, 29] : List Nat).elem t = true ∧ (t = 9 ∨ t = 15 ∨ t = 27 ∨ t = 29) ∧ f 4 = .ref sc ∧ f 5 = .int (zI (ckd g z l q)) ∧ (∃ x : Int32, f 7 = .int x) ∧ (kd g z l q = 2 → f 7 = .int (zI (nmv g z q))) ∧ (kd g z l q = 3 → f 8 = .int (zI (nmv g z q))) ∧ f 10 = x ∧ f 11 = y ∧ ∃ w, f 9 = .ref w ∧ (kd g z l q = 1 → ∃ s, StrAt H w s ∧ StrF (Fz B H) w s ∧ NmB s ∧ pk s = wdv g z q) := by
  obtain ⟨K, ha, hB, f, h1, h2, h3, h4, -⟩ := h
  obtain ⟨a1, a2, a3, a4, a5, w, w1, w2⟩ := h2
  exact ⟨f, h1.1, h1.tg.1, h1.2.1, h1.2.2.2.2.2.2, a1, a3, a4, a5, h3, h4, w, w1, fun k => by obtain ⟨s, s1, s2, s3⟩ := w2 k; exact ⟨s, s1.at Fz_F, s1, s2, s3⟩⟩
/-- a number within bounds -/
theorem rc_number (h : RdC B H a t n tp sc g z l x y q) (l0 : -1000 ≤ low) (l1 : low ≤ 1000) (l2 : -1000 ≤ high) (l3 : high ≤ 1000) : CR (numP g z l low high q) (M2 (d + 7) 8013 [.ref a, .int (zI low), .int (zI high)] H) H (fun u => u = a) 5 40 (fun v w H2 => w = some (.int (zI v)) ∧ RdC B H2 a t n tp sc g z l x y (nxt g z l q)) := by
  obtain ⟨f, m0, t1, ht, f4, f5, ⟨v7, f7x⟩, f7, f8, -⟩ := h.fs
  have rv : (jtRecv 8013).elem t = true := by rcases ht with e | e | e | e <;> subst e <;> rfl
  obtain ⟨-, c3, -⟩ := ckd_is (g := g) (z := z) (l := l) (q := q)
  have cr := ckd_rg (g := g) (z := z) (l := l) (q := q)
  have nd1 := fun b => rc_need (d := d + 1) h (b := b) (k := 1) (by omega) (by omega)
  have nd2 := fun b => rc_need (d := d + 1) h (b := b) (k := 2) (by omega) (by omega)
  rw [Y8013 H (jrecv_in m0 rv), F8013_0]
  unfold numP
  by_cases k2 : kd g z l q = 2
  · have ck := c3.mpr k2
    have n1 := nd1 true
    rw [if_pos rfl, bZ_t] at n1
    have f7' := f7 k2
    obtain ⟨v0, v1⟩ := nmv_rg2 k2
    have ii := c_isIn (d := d + 5) (H := H) (c := nmv g z q) (k := low) (n := high) ⟨by omega, by omega⟩ ⟨by omega, by omega⟩ ⟨by omega, by omega⟩
    rw [bI_int] at ii
    rw [if_neg (show ¬ kd g z l q ≠ 2 from fun u => u k2)]
    cases e : isInZ (nmv g z q) low high with
    | false =>
      rw [e] at ii
      have n2 := nd2 false
      rw [if_neg (by decide)] at n2
      obtain ⟨H2, r1, r2, r3, r4, r5⟩ := n2
      rw [if_pos rfl]
      refine ⟨H2, r2.mono fun _ _ u => u.elim, by omega, by omega, H.1, ?_, r5⟩
      simp (disch := first | assumption | omega | decide | exact okF_i | exact okF_r | exact okF_n | exact okF_j | rfl) only [jc_ref, rI_int, rR_ref, rR_null, rJ_long, ckR_ref, ckR_null, ckr_ref, ckr_null, ckW_int, ckW_ref, ckW_null, cI_ok, cR_ok, cR_null, cV_ok, cJ_ok, qH_eq, qD_in, aG_ref, aS_ref, aL_ref, pF_ref, cK_ref, cK_null, zI_lit, zJ_lit, zI_add, zI_sub, zI_mul, zI_neg, zI_eq, zI_lt, zI_le, Int.reduceLT, Int.reduceLE, Int.reduceAdd, Int.reduceSub, Int.reduceMul, Int.reduceNeg, Int.reduceEq, Int.reduceNe, reduceIte, jf_in, pFc_in, aGi, aGb, aSi, aLc_in, cKc_in, nA_in, jm_s1, jm_s2, jm_p1, jm_p2, jm_b, jn_b, jn_s, jn_p, jset_jset, jset_jpush2, ckR_is, ckr_is, rR_is, ckW_is, cR_is, obi2, ckW_int, eq_self, if_true, ref_null, if_false, ne_eq, not_true_eq_false, not_false_eq_true, decide_true, decide_false, decide_not, Bool.true_and, Bool.false_and, Bool.and_true, Bool.and_false, Bool.true_or, Bool.false_or, Bool.or_true, Bool.or_false, Bool.not_true, Bool.not_false, Bool.false_eq_true, bI_t, bI_f, Int.natCast_one, Int.cast_ofNat_Int, Int.natCast_zero, ju_self, ju_ne, m0, f5, ck, F8013_14, n1, f7', ii, r1, cV_th]
    | true =>
      rw [e] at ii
      have n2 := nd2 true
      rw [if_pos rfl] at n2
      obtain ⟨H2, g1, g2, g3, g4, g5⟩ := rc_go (d := d + 4) h
      rw [if_neg (by decide)]
      refine ⟨H2, g2, by omega, by omega, _, ?_, rfl, g5⟩
      simp (disch := first | assumption | omega | decide | exact okF_i | exact okF_r | exact okF_n | exact okF_j | rfl) only [jc_ref, rI_int, rR_ref, rR_null, rJ_long, ckR_ref, ckR_null, ckr_ref, ckr_null, ckW_int, ckW_ref, ckW_null, cI_ok, cR_ok, cR_null, cV_ok, cJ_ok, qH_eq, qD_in, aG_ref, aS_ref, aL_ref, pF_ref, cK_ref, cK_null, zI_lit, zJ_lit, zI_add, zI_sub, zI_mul, zI_neg, zI_eq, zI_lt, zI_le, Int.reduceLT, Int.reduceLE, Int.reduceAdd, Int.reduceSub, Int.reduceMul, Int.reduceNeg, Int.reduceEq, Int.reduceNe, reduceIte, jf_in, pFc_in, aGi, aGb, aSi, aLc_in, cKc_in, nA_in, jm_s1, jm_s2, jm_p1, jm_p2, jm_b, jn_b, jn_s, jn_p, jset_jset, jset_jpush2, ckR_is, ckr_is, rR_is, ckW_is, cR_is, obi2, ckW_int, eq_self, if_true, ref_null, if_false, ne_eq, not_true_eq_false, not_false_eq_true, decide_true, decide_false, decide_not, Bool.true_and, Bool.false_and, Bool.and_true, Bool.and_false, Bool.true_or, Bool.false_or, Bool.or_true, Bool.or_false, Bool.not_true, Bool.not_false, Bool.false_eq_true, bI_t, bI_f, Int.natCast_one, Int.cast_ofNat_Int, Int.natCast_zero, ju_self, ju_ne, m0, f5, ck, F8013_14, n1, f7', ii, n2, g1]
  · have ck : ¬ ckd g z l q = 3 := fun u => k2 (c3.mp u)
    have n1 := nd1 false
    rw [if_neg (by decide), bZ_f] at n1
    obtain ⟨H2, r1, r2, r3, r4, r5⟩ := n1
    rw [if_pos (show kd g z l q ≠ 2 from k2)]
    refine ⟨H2, r2.mono fun _ _ u => u.elim, by omega, by omega, H.1, ?_, r5⟩
    simp (disch := first | assumption | omega | decide | exact okF_i | exact okF_r | exact okF_n | exact okF_j | rfl) only [jc_ref, rI_int, rR_ref, rR_null, rJ_long, ckR_ref, ckR_null, ckr_ref, ckr_null, ckW_int, ckW_ref, ckW_null, cI_ok, cR_ok, cR_null, cV_ok, cJ_ok, qH_eq, qD_in, aG_ref, aS_ref, aL_ref, pF_ref, cK_ref, cK_null, zI_lit, zJ_lit, zI_add, zI_sub, zI_mul, zI_neg, zI_eq, zI_lt, zI_le, Int.reduceLT, Int.reduceLE, Int.reduceAdd, Int.reduceSub, Int.reduceMul, Int.reduceNeg, Int.reduceEq, Int.reduceNe, reduceIte, jf_in, pFc_in, aGi, aGb, aSi, aLc_in, cKc_in, nA_in, jm_s1, jm_s2, jm_p1, jm_p2, jm_b, jn_b, jn_s, jn_p, jset_jset, jset_jpush2, ckR_is, ckr_is, rR_is, ckW_is, cR_is, obi2, ckW_int, eq_self, if_true, ref_null, if_false, ne_eq, not_true_eq_false, not_false_eq_true, decide_true, decide_false, decide_not, Bool.true_and, Bool.false_and, Bool.and_true, Bool.and_false, Bool.true_or, Bool.false_or, Bool.or_true, Bool.or_false, Bool.not_true, Bool.not_false, Bool.false_eq_true, bI_t, bI_f, Int.natCast_one, Int.cast_ofNat_Int, Int.natCast_zero, ju_self, ju_ne, m0, f5, ck, F8013_14, r1, cV_th]
/-- a line's end -/
theorem rc_end (h : RdC B H a t n tp sc g z l x y q) : CR (signP g z l 59 q) (M2 (d + 6) 8003 [.ref a] H) H (fun u => u = a) 5 40 (fun v w H2 => w = none ∧ v = nxt g z l q ∧ RdC B H2 a t n tp sc g z l x y (nxt g z l q)) := by
  obtain ⟨f, m0, t1, ht, f4, f5, -⟩ := h.fs
  have rv : (jtRecv 8003).elem t = true := by rcases ht with e | e | e | e <;> subst e <;> rfl
  obtain ⟨-, -, -, -, c4, -⟩ := ckd_is (g := g) (z := z) (l := l) (q := q)
  have cr := ckd_rg (g := g) (z := z) (l := l) (q := q)
  have nd1 := fun b => rc_need (d := d) h (b := b) (k := 1) (by omega) (by omega)
  rw [Y8003 H (jrecv_in m0 rv), F8003_0]
  unfold signP isS
  by_cases k4 : kd g z l q = 3 ∧ nmv g z q = 59
  · have ck := c4.mpr k4
    have n1 := nd1 true
    rw [if_pos rfl, bZ_t] at n1
    obtain ⟨H2, g1, g2, g3, g4, g5⟩ := rc_go (d := d + 3) h
    rw [decide_eq_true k4, if_pos rfl]
    refine ⟨H2, g2, by omega, by omega, _, ?_, rfl, rfl, g5⟩
    simp (disch := first | assumption | omega | decide | exact okF_i | exact okF_r | exact okF_n | exact okF_j | rfl) only [jc_ref, rI_int, rR_ref, rR_null, rJ_long, ckR_ref, ckR_null, ckr_ref, ckr_null, ckW_int, ckW_ref, ckW_null, cI_ok, cR_ok, cR_null, cV_ok, cJ_ok, qH_eq, qD_in, aG_ref, aS_ref, aL_ref, pF_ref, cK_ref, cK_null, zI_lit, zJ_lit, zI_add, zI_sub, zI_mul, zI_neg, zI_eq, zI_lt, zI_le, Int.reduceLT, Int.reduceLE, Int.reduceAdd, Int.reduceSub, Int.reduceMul, Int.reduceNeg, Int.reduceEq, Int.reduceNe, reduceIte, jf_in, pFc_in, aGi, aGb, aSi, aLc_in, cKc_in, nA_in, jm_s1, jm_s2, jm_p1, jm_p2, jm_b, jn_b, jn_s, jn_p, jset_jset, jset_jpush2, ckR_is, ckr_is, rR_is, ckW_is, cR_is, obi2, ckW_int, eq_self, if_true, ref_null, if_false, ne_eq, not_true_eq_false, not_false_eq_true, decide_true, decide_false, decide_not, Bool.true_and, Bool.false_and, Bool.and_true, Bool.and_false, Bool.true_or, Bool.false_or, Bool.or_true, Bool.or_false, Bool.not_true, Bool.not_false, Bool.false_eq_true, bI_t, bI_f, Int.natCast_one, Int.cast_ofNat_Int, Int.natCast_zero, ju_self, ju_ne, m0, f5, ck, n1, g1]
  · have ck : ¬ ckd g z l q = 4 := fun u => k4 (c4.mp u)
    have n1 := nd1 false
    rw [if_neg (by decide), bZ_f] at n1
    obtain ⟨H2, r1, r2, r3, r4, r5⟩ := n1
    rw [decide_eq_false k4, if_neg (by decide)]
    refine ⟨H2, r2.mono fun _ _ u => u.elim, by omega, by omega, H.1, ?_, r5⟩
    simp (disch := first | assumption | omega | decide | exact okF_i | exact okF_r | exact okF_n | exact okF_j | rfl) only [jc_ref, rI_int, rR_ref, rR_null, rJ_long, ckR_ref, ckR_null, ckr_ref, ckr_null, ckW_int, ckW_ref, ckW_null, cI_ok, cR_ok, cR_null, cV_ok, cJ_ok, qH_eq, qD_in, aG_ref, aS_ref, aL_ref, pF_ref, cK_ref, cK_null, zI_lit, zJ_lit, zI_add, zI_sub, zI_mul, zI_neg, zI_eq, zI_lt, zI_le, Int.reduceLT, Int.reduceLE, Int.reduceAdd, Int.reduceSub, Int.reduceMul, Int.reduceNeg, Int.reduceEq, Int.reduceNe, reduceIte, jf_in, pFc_in, aGi, aGb, aSi, aLc_in, cKc_in, nA_in, jm_s1, jm_s2, jm_p1, jm_p2, jm_b, jn_b, jn_s, jn_p, jset_jset, jset_jpush2, ckR_is, ckr_is, rR_is, ckW_is, cR_is, obi2, ckW_int, eq_self, if_true, ref_null, if_false, ne_eq, not_true_eq_false, not_false_eq_true, decide_true, decide_false, decide_not, Bool.true_and, Bool.false_and, Bool.and_true, Bool.and_false, Bool.true_or, Bool.false_or, Bool.or_true, Bool.or_false, Bool.not_true, Bool.not_false, Bool.false_eq_true, bI_t, bI_f, Int.natCast_one, Int.cast_ofNat_Int, Int.natCast_zero, ju_self, ju_ne, m0, f5, ck, r1, cV_th]
theorem isThan_iff : isThan g z l q = true ↔ (kd g z l q = 3 ∧ nmv g z q ≠ 59) ∧ nmv g z q ≠ 40 ∧ nmv g z q ≠ 41 := by
  unfold isThan
  rw [Bool.and_eq_true, decide_eq_true_eq]
  unfold isInZ
  rw [decide_eq_true_eq]
  constructor
  · rintro ⟨a, b⟩
    exact ⟨⟨a, by omega⟩, by omega, by omega⟩
  · rintro ⟨⟨a, b⟩, c, e⟩
    obtain ⟨-, -, k3, k4⟩ := kd3 a
    have nv : nmv g z q = cAt g z q := by unfold nmv; rw [if_pos k3]
    unfold isSg at k4
    rw [decide_eq_true_eq] at k4
    exact ⟨a, by omega⟩
def thanP (g : Int → Int) (z l q : Int) : Except Er Int := if isThan g z l q = false then .error (erx g z l q 1) else .ok (nmv g z q)
theorem rc_than (h : RdC B H a t n tp sc g z l x y q) : CR (thanP g z l q) (M2 (d + 6) 8017 [.ref a] H) H (fun u => u = a) 5 40 (fun v w H2 => w = some (.int (zI v)) ∧ RdC B H2 a t n tp sc g z l x y (nxt g z l q)) := by
  obtain ⟨f, m0, t1, ht, f4, f5, -, -, f8, -⟩ := h.fs
  have rv : (jtRecv 8017).elem t = true := by rcases ht with e | e | e | e <;> subst e <;> rfl
  have rv2 : (jtRecv 8011).elem t = true := by rcases ht with e | e | e | e <;> subst e <;> rfl
  obtain ⟨-, -, -, -, -, c6⟩ := ckd_is (g := g) (z := z) (l := l) (q := q)
  have cr := ckd_rg (g := g) (z := z) (l := l) (q := q)
  have nd1 := fun b => rc_need (d := d) h (b := b) (k := 1) (by omega) (by omega)
  have it : M2 (d + 5) 8011 [.ref a] H = some (.inl (some (.int (zI (bZ (isThan g z l q))))), H) := by
    rw [Y8011 H (jrecv_in m0 rv2), F8011_0]
    by_cases k6 : kd g z l q = 3 ∧ nmv g z q ≠ 59
    · have ck := c6.mpr k6
      have f8' := f8 k6.1
      have nr := nmv_rg3 k6.1
      by_cases e1 : nmv g z q = 40
      · rw [show isThan g z l q = false from Bool.eq_false_iff.mpr fun u => (isThan_iff.mp u).2.1 e1]
        simp (disch := first | assumption | omega | decide | exact okF_i | exact okF_r | exact okF_n | exact okF_j | rfl) only [jc_ref, rI_int, rR_ref, rR_null, rJ_long, ckR_ref, ckR_null, ckr_ref, ckr_null, ckW_int, ckW_ref, ckW_null, cI_ok, cR_ok, cR_null, cV_ok, cJ_ok, qH_eq, qD_in, aG_ref, aS_ref, aL_ref, pF_ref, cK_ref, cK_null, zI_lit, zJ_lit, zI_add, zI_sub, zI_mul, zI_neg, zI_eq, zI_lt, zI_le, Int.reduceLT, Int.reduceLE, Int.reduceAdd, Int.reduceSub, Int.reduceMul, Int.reduceNeg, Int.reduceEq, Int.reduceNe, reduceIte, jf_in, pFc_in, aGi, aGb, aSi, aLc_in, cKc_in, nA_in, jm_s1, jm_s2, jm_p1, jm_p2, jm_b, jn_b, jn_s, jn_p, jset_jset, jset_jpush2, ckR_is, ckr_is, rR_is, ckW_is, cR_is, obi2, ckW_int, eq_self, if_true, ref_null, if_false, ne_eq, not_true_eq_false, not_false_eq_true, decide_true, decide_false, decide_not, Bool.true_and, Bool.false_and, Bool.and_true, Bool.and_false, Bool.true_or, Bool.false_or, Bool.or_true, Bool.or_false, Bool.not_true, Bool.not_false, Bool.false_eq_true, bI_t, bI_f, Int.natCast_one, Int.cast_ofNat_Int, Int.natCast_zero, ju_self, ju_ne, m0, f5, ck, f8', e1, bZ_f]
      · by_cases e2 : nmv g z q = 41
        · rw [show isThan g z l q = false from Bool.eq_false_iff.mpr fun u => (isThan_iff.mp u).2.2 e2]
          simp (disch := first | assumption | omega | decide | exact okF_i | exact okF_r | exact okF_n | exact okF_j | rfl) only [jc_ref, rI_int, rR_ref, rR_null, rJ_long, ckR_ref, ckR_null, ckr_ref, ckr_null, ckW_int, ckW_ref, ckW_null, cI_ok, cR_ok, cR_null, cV_ok, cJ_ok, qH_eq, qD_in, aG_ref, aS_ref, aL_ref, pF_ref, cK_ref, cK_null, zI_lit, zJ_lit, zI_add, zI_sub, zI_mul, zI_neg, zI_eq, zI_lt, zI_le, Int.reduceLT, Int.reduceLE, Int.reduceAdd, Int.reduceSub, Int.reduceMul, Int.reduceNeg, Int.reduceEq, Int.reduceNe, reduceIte, jf_in, pFc_in, aGi, aGb, aSi, aLc_in, cKc_in, nA_in, jm_s1, jm_s2, jm_p1, jm_p2, jm_b, jn_b, jn_s, jn_p, jset_jset, jset_jpush2, ckR_is, ckr_is, rR_is, ckW_is, cR_is, obi2, ckW_int, eq_self, if_true, ref_null, if_false, ne_eq, not_true_eq_false, not_false_eq_true, decide_true, decide_false, decide_not, Bool.true_and, Bool.false_and, Bool.and_true, Bool.and_false, Bool.true_or, Bool.false_or, Bool.or_true, Bool.or_false, Bool.not_true, Bool.not_false, Bool.false_eq_true, bI_t, bI_f, Int.natCast_one, Int.cast_ofNat_Int, Int.natCast_zero, ju_self, ju_ne, m0, f5, ck, f8', e2, bZ_f]
        · rw [isThan_iff.mpr ⟨k6, e1, e2⟩]
          simp (disch := first | assumption | omega | decide | exact okF_i | exact okF_r | exact okF_n | exact okF_j | rfl) only [jc_ref, rI_int, rR_ref, rR_null, rJ_long, ckR_ref, ckR_null, ckr_ref, ckr_null, ckW_int, ckW_ref, ckW_null, cI_ok, cR_ok, cR_null, cV_ok, cJ_ok, qH_eq, qD_in, aG_ref, aS_ref, aL_ref, pF_ref, cK_ref, cK_null, zI_lit, zJ_lit, zI_add, zI_sub, zI_mul, zI_neg, zI_eq, zI_lt, zI_le, Int.reduceLT, Int.reduceLE, Int.reduceAdd, Int.reduceSub, Int.reduceMul, Int.reduceNeg, Int.reduceEq, Int.reduceNe, reduceIte, jf_in, pFc_in, aGi, aGb, aSi, aLc_in, cKc_in, nA_in, jm_s1, jm_s2, jm_p1, jm_p2, jm_b, jn_b, jn_s, jn_p, jset_jset, jset_jpush2, ckR_is, ckr_is, rR_is, ckW_is, cR_is, obi2, ckW_int, eq_self, if_true, ref_null, if_false, ne_eq, not_true_eq_false, not_false_eq_true, decide_true, decide_false, decide_not, Bool.true_and, Bool.false_and, Bool.and_true, Bool.and_false, Bool.true_or, Bool.false_or, Bool.or_true, Bool.or_false, Bool.not_true, Bool.not_false, Bool.false_eq_true, bI_t, bI_f, Int.natCast_one, Int.cast_ofNat_Int, Int.natCast_zero, ju_self, ju_ne, m0, f5, ck, f8', e1, e2, bZ_t]
    · have ck : ¬ ckd g z l q = 6 := fun u => k6 (c6.mp u)
      rw [show isThan g z l q = false from Bool.eq_false_iff.mpr fun u => k6 (isThan_iff.mp u).1]
      simp (disch := first | assumption | omega | decide | exact okF_i | exact okF_r | exact okF_n | exact okF_j | rfl) only [jc_ref, rI_int, rR_ref, rR_null, rJ_long, ckR_ref, ckR_null, ckr_ref, ckr_null, ckW_int, ckW_ref, ckW_null, cI_ok, cR_ok, cR_null, cV_ok, cJ_ok, qH_eq, qD_in, aG_ref, aS_ref, aL_ref, pF_ref, cK_ref, cK_null, zI_lit, zJ_lit, zI_add, zI_sub, zI_mul, zI_neg, zI_eq, zI_lt, zI_le, Int.reduceLT, Int.reduceLE, Int.reduceAdd, Int.reduceSub, Int.reduceMul, Int.reduceNeg, Int.reduceEq, Int.reduceNe, reduceIte, jf_in, pFc_in, aGi, aGb, aSi, aLc_in, cKc_in, nA_in, jm_s1, jm_s2, jm_p1, jm_p2, jm_b, jn_b, jn_s, jn_p, jset_jset, jset_jpush2, ckR_is, ckr_is, rR_is, ckW_is, cR_is, obi2, ckW_int, eq_self, if_true, ref_null, if_false, ne_eq, not_true_eq_false, not_false_eq_true, decide_true, decide_false, decide_not, Bool.true_and, Bool.false_and, Bool.and_true, Bool.and_false, Bool.true_or, Bool.false_or, Bool.or_true, Bool.or_false, Bool.not_true, Bool.not_false, Bool.false_eq_true, bI_t, bI_f, Int.natCast_one, Int.cast_ofNat_Int, Int.natCast_zero, ju_self, ju_ne, m0, f5, ck, bZ_f]
  rw [Y8017 H (jrecv_in m0 rv), F8017_0]
  unfold thanP
  cases e : isThan g z l q with
  | true =>
    rw [e] at it
    have n1 := nd1 true
    rw [if_pos rfl] at n1
    obtain ⟨H2, g1, g2, g3, g4, g5⟩ := rc_go (d := d + 3) h
    have f8' := f8 (isThan_iff.mp e).1.1
    rw [if_neg (by decide)]
    refine ⟨H2, g2, by omega, by omega, _, ?_, rfl, g5⟩
    simp (disch := first | assumption | omega | decide | exact okF_i | exact okF_r | exact okF_n | exact okF_j | rfl) only [jc_ref, rI_int, rR_ref, rR_null, rJ_long, ckR_ref, ckR_null, ckr_ref, ckr_null, ckW_int, ckW_ref, ckW_null, cI_ok, cR_ok, cR_null, cV_ok, cJ_ok, qH_eq, qD_in, aG_ref, aS_ref, aL_ref, pF_ref, cK_ref, cK_null, zI_lit, zJ_lit, zI_add, zI_sub, zI_mul, zI_neg, zI_eq, zI_lt, zI_le, Int.reduceLT, Int.reduceLE, Int.reduceAdd, Int.reduceSub, Int.reduceMul, Int.reduceNeg, Int.reduceEq, Int.reduceNe, reduceIte, jf_in, pFc_in, aGi, aGb, aSi, aLc_in, cKc_in, nA_in, jm_s1, jm_s2, jm_p1, jm_p2, jm_b, jn_b, jn_s, jn_p, jset_jset, jset_jpush2, ckR_is, ckr_is, rR_is, ckW_is, cR_is, obi2, ckW_int, eq_self, if_true, ref_null, if_false, ne_eq, not_true_eq_false, not_false_eq_true, decide_true, decide_false, decide_not, Bool.true_and, Bool.false_and, Bool.and_true, Bool.and_false, Bool.true_or, Bool.false_or, Bool.or_true, Bool.or_false, Bool.not_true, Bool.not_false, Bool.false_eq_true, bI_t, bI_f, Int.natCast_one, Int.cast_ofNat_Int, Int.natCast_zero, ju_self, ju_ne, it, n1, m0, f8', g1]
  | false =>
    rw [e] at it
    have n1 := nd1 false
    rw [if_neg (by decide)] at n1
    obtain ⟨H2, r1, r2, r3, r4, r5⟩ := n1
    rw [if_pos rfl]
    refine ⟨H2, r2.mono fun _ _ u => u.elim, by omega, by omega, H.1, ?_, r5⟩
    simp (disch := first | assumption | omega | decide | exact okF_i | exact okF_r | exact okF_n | exact okF_j | rfl) only [jc_ref, rI_int, rR_ref, rR_null, rJ_long, ckR_ref, ckR_null, ckr_ref, ckr_null, ckW_int, ckW_ref, ckW_null, cI_ok, cR_ok, cR_null, cV_ok, cJ_ok, qH_eq, qD_in, aG_ref, aS_ref, aL_ref, pF_ref, cK_ref, cK_null, zI_lit, zJ_lit, zI_add, zI_sub, zI_mul, zI_neg, zI_eq, zI_lt, zI_le, Int.reduceLT, Int.reduceLE, Int.reduceAdd, Int.reduceSub, Int.reduceMul, Int.reduceNeg, Int.reduceEq, Int.reduceNe, reduceIte, jf_in, pFc_in, aGi, aGb, aSi, aLc_in, cKc_in, nA_in, jm_s1, jm_s2, jm_p1, jm_p2, jm_b, jn_b, jn_s, jn_p, jset_jset, jset_jpush2, ckR_is, ckr_is, rR_is, ckW_is, cR_is, obi2, ckW_int, eq_self, if_true, ref_null, if_false, ne_eq, not_true_eq_false, not_false_eq_true, decide_true, decide_false, decide_not, Bool.true_and, Bool.false_and, Bool.and_true, Bool.and_false, Bool.true_or, Bool.false_or, Bool.or_true, Bool.or_false, Bool.not_true, Bool.not_false, Bool.false_eq_true, bI_t, bI_f, Int.natCast_one, Int.cast_ofNat_Int, Int.natCast_zero, ju_self, ju_ne, it, r1, cV_th]
/-- a value: a number, or none -/
def vlP (g : Int → Int) (z l q : Int) : Except Er (Int × Int) := if isW g z l q wNONE = true then .ok (-1, nxt g z l q) else eb (numP g z l 0 99 q) fun v => .ok (v, nxt g z l q)
theorem valP_vl {L : Int → Int} {i : Int} : valP g z l L i q = eb (vlP g z l q) fun v => .ok (fset L i v.1, v.2) := by
  unfold valP vlP
  by_cases e : isW g z l q wNONE = true
  · rw [if_pos e, if_pos e]; rfl
  · rw [if_neg e, if_neg e]
    cases numP g z l 0 99 q <;> rfl
theorem nmE {k : Nat} (h : (k, 0) ∈ [((18 : Nat), (0 : Nat)), (19, 0), (20, 0), (21, 0), (22, 0), (23, 0), (24, 0), (25, 0), (26, 0), (27, 0), (28, 0), (29, 0), (30, 0), (31, 0), (32, 0), (33, 0), (34, 0), (35, 0), (36, 0), (37, 0), (38, 0), (39, 0), (40, 0), (41, 0), (42, 0), (43, 0), (44, 0), (45, 0), (12, 0), (13, 0), (14, 0)]) : NmB (bsL k) := by
  have key : ∀ x ∈ [((18 : Nat), (0 : Nat)), (19, 0), (20, 0), (21, 0), (22, 0), (23, 0), (24, 0), (25, 0), (26, 0), (27, 0), (28, 0), (29, 0), (30, 0), (31, 0), (32, 0), (33, 0), (34, 0), (35, 0), (36, 0), (37, 0), (38, 0), (39, 0), (40, 0), (41, 0), (42, 0), (43, 0), (44, 0), (45, 0), (12, 0), (13, 0), (14, 0)], NmB (bsL x.1) := by
    unfold NmB
    decide +kernel
  exact key _ h
theorem rc_value (h : RdC B H a t n tp sc g z l x y q) : CR (vlP g z l q) (M2 (d + 8) 8018 [.ref a] H) H (fun u => u = a) 5 40 (fun v w H2 => w = some (.int (zI v.1)) ∧ v.2 = nxt g z l q ∧ RdC B H2 a t n tp sc g z l x y (nxt g z l q)) := by
  obtain ⟨f, m0, t1, ht, f4, f5, -⟩ := h.fs
  have rv : (jtRecv 8018).elem t = true := by rcases ht with e | e | e | e <;> subst e <;> rfl
  obtain ⟨c1, c2, -⟩ := ckd_is (g := g) (z := z) (l := l) (q := q)
  have cr := ckd_rg (g := g) (z := z) (l := l) (q := q)
  have nd1 := fun b => rc_need (d := d + 2) h (b := b) (k := 1) (by omega) (by omega)
  obtain ⟨w, w1, w2⟩ := rc_isE h (k := 18) (by omega) (by omega) (nmE (by decide))
  have w2' := w2 (d + 5)
  rw [show pk (bsL 18) = wNONE by decide] at w2'
  rw [Y8018 H (jrecv_in m0 rv), F8018_0]
  unfold vlP
  by_cases k2 : kd g z l q = 2
  · have ck := c2.mpr k2
    have n1 := nd1 true
    rw [if_pos rfl, bZ_t] at n1
    have nw : ¬ isW g z l q wNONE = true := fun u => by have := isW_k u; omega
    rw [if_neg nw]
    obtain ⟨H2, r1, r2, r3, r4⟩ := rc_number (d := d) h (low := 0) (high := 99) (by omega) (by omega) (by omega) (by omega)
    cases hr : numP g z l 0 99 q with
    | error e =>
      rw [hr] at r4
      obtain ⟨u, r5, r6⟩ := r4
      refine ⟨H2, r1, r2, r3, u, ?_, r6⟩
      simp (disch := first | assumption | omega | decide | exact okF_i | exact okF_r | exact okF_n | exact okF_j | rfl) only [jc_ref, rI_int, rR_ref, rR_null, rJ_long, ckR_ref, ckR_null, ckr_ref, ckr_null, ckW_int, ckW_ref, ckW_null, cI_ok, cR_ok, cR_null, cV_ok, cJ_ok, qH_eq, qD_in, aG_ref, aS_ref, aL_ref, pF_ref, cK_ref, cK_null, zI_lit, zJ_lit, zI_add, zI_sub, zI_mul, zI_neg, zI_eq, zI_lt, zI_le, Int.reduceLT, Int.reduceLE, Int.reduceAdd, Int.reduceSub, Int.reduceMul, Int.reduceNeg, Int.reduceEq, Int.reduceNe, reduceIte, jf_in, pFc_in, aGi, aGb, aSi, aLc_in, cKc_in, nA_in, jm_s1, jm_s2, jm_p1, jm_p2, jm_b, jn_b, jn_s, jn_p, jset_jset, jset_jpush2, ckR_is, ckr_is, rR_is, ckW_is, cR_is, obi2, ckW_int, eq_self, if_true, ref_null, if_false, ne_eq, not_true_eq_false, not_false_eq_true, decide_true, decide_false, decide_not, Bool.true_and, Bool.false_and, Bool.and_true, Bool.and_false, Bool.true_or, Bool.false_or, Bool.or_true, Bool.or_false, Bool.not_true, Bool.not_false, Bool.false_eq_true, bI_t, bI_f, Int.natCast_one, Int.cast_ofNat_Int, Int.natCast_zero, ju_self, ju_ne, m0, f5, ck, F8018_23, n1, r5, cI_th]
    | ok v =>
      rw [hr] at r4
      obtain ⟨u, r5, rfl, r7⟩ := r4
      refine ⟨H2, r1, r2, r3, _, ?_, rfl, rfl, r7⟩
      simp (disch := first | assumption | omega | decide | exact okF_i | exact okF_r | exact okF_n | exact okF_j | rfl) only [jc_ref, rI_int, rR_ref, rR_null, rJ_long, ckR_ref, ckR_null, ckr_ref, ckr_null, ckW_int, ckW_ref, ckW_null, cI_ok, cR_ok, cR_null, cV_ok, cJ_ok, qH_eq, qD_in, aG_ref, aS_ref, aL_ref, pF_ref, cK_ref, cK_null, zI_lit, zJ_lit, zI_add, zI_sub, zI_mul, zI_neg, zI_eq, zI_lt, zI_le, Int.reduceLT, Int.reduceLE, Int.reduceAdd, Int.reduceSub, Int.reduceMul, Int.reduceNeg, Int.reduceEq, Int.reduceNe, reduceIte, jf_in, pFc_in, aGi, aGb, aSi, aLc_in, cKc_in, nA_in, jm_s1, jm_s2, jm_p1, jm_p2, jm_b, jn_b, jn_s, jn_p, jset_jset, jset_jpush2, ckR_is, ckr_is, rR_is, ckW_is, cR_is, obi2, ckW_int, eq_self, if_true, ref_null, if_false, ne_eq, not_true_eq_false, not_false_eq_true, decide_true, decide_false, decide_not, Bool.true_and, Bool.false_and, Bool.and_true, Bool.and_false, Bool.true_or, Bool.false_or, Bool.or_true, Bool.or_false, Bool.not_true, Bool.not_false, Bool.false_eq_true, bI_t, bI_f, Int.natCast_one, Int.cast_ofNat_Int, Int.natCast_zero, ju_self, ju_ne, m0, f5, ck, F8018_23, n1, r5]
  · have ck : ¬ ckd g z l q = 3 := fun u => k2 (c2.mp u)
    cases e : isW g z l q wNONE with
    | true =>
      rw [e] at w2'
      have n1 := nd1 true
      rw [if_pos rfl, bZ_t] at n1
      obtain ⟨H2, g1, g2, g3, g4, g5⟩ := rc_go (d := d + 5) h
      rw [if_pos rfl]
      refine ⟨H2, g2, by omega, by omega, _, ?_, rfl, rfl, g5⟩
      simp (disch := first | assumption | omega | decide | exact okF_i | exact okF_r | exact okF_n | exact okF_j | rfl) only [jc_ref, rI_int, rR_ref, rR_null, rJ_long, ckR_ref, ckR_null, ckr_ref, ckr_null, ckW_int, ckW_ref, ckW_null, cI_ok, cR_ok, cR_null, cV_ok, cJ_ok, qH_eq, qD_in, aG_ref, aS_ref, aL_ref, pF_ref, cK_ref, cK_null, zI_lit, zJ_lit, zI_add, zI_sub, zI_mul, zI_neg, zI_eq, zI_lt, zI_le, Int.reduceLT, Int.reduceLE, Int.reduceAdd, Int.reduceSub, Int.reduceMul, Int.reduceNeg, Int.reduceEq, Int.reduceNe, reduceIte, jf_in, pFc_in, aGi, aGb, aSi, aLc_in, cKc_in, nA_in, jm_s1, jm_s2, jm_p1, jm_p2, jm_b, jn_b, jn_s, jn_p, jset_jset, jset_jpush2, ckR_is, ckr_is, rR_is, ckW_is, cR_is, obi2, ckW_int, eq_self, if_true, ref_null, if_false, ne_eq, not_true_eq_false, not_false_eq_true, decide_true, decide_false, decide_not, Bool.true_and, Bool.false_and, Bool.and_true, Bool.and_false, Bool.true_or, Bool.false_or, Bool.or_true, Bool.or_false, Bool.not_true, Bool.not_false, Bool.false_eq_true, bI_t, bI_f, Int.natCast_one, Int.cast_ofNat_Int, Int.natCast_zero, ju_self, ju_ne, m0, f5, ck, w1, w2', F8018_23, n1, g1, bZ_t]
    | false =>
      rw [e] at w2'
      have n1 := nd1 false
      rw [if_neg (by decide), bZ_f] at n1
      obtain ⟨H2, r1, r2, r3, r4, r5⟩ := n1
      rw [if_neg (by decide)]
      have hr : numP g z l 0 99 q = .error (erx g z l q 1) := by unfold numP; rw [if_pos k2]
      rw [hr]
      refine ⟨H2, r2.mono fun _ _ u => u.elim, by omega, by omega, H.1, ?_, r5⟩
      simp (disch := first | assumption | omega | decide | exact okF_i | exact okF_r | exact okF_n | exact okF_j | rfl) only [jc_ref, rI_int, rR_ref, rR_null, rJ_long, ckR_ref, ckR_null, ckr_ref, ckr_null, ckW_int, ckW_ref, ckW_null, cI_ok, cR_ok, cR_null, cV_ok, cJ_ok, qH_eq, qD_in, aG_ref, aS_ref, aL_ref, pF_ref, cK_ref, cK_null, zI_lit, zJ_lit, zI_add, zI_sub, zI_mul, zI_neg, zI_eq, zI_lt, zI_le, Int.reduceLT, Int.reduceLE, Int.reduceAdd, Int.reduceSub, Int.reduceMul, Int.reduceNeg, Int.reduceEq, Int.reduceNe, reduceIte, jf_in, pFc_in, aGi, aGb, aSi, aLc_in, cKc_in, nA_in, jm_s1, jm_s2, jm_p1, jm_p2, jm_b, jn_b, jn_s, jn_p, jset_jset, jset_jpush2, ckR_is, ckr_is, rR_is, ckW_is, cR_is, obi2, ckW_int, eq_self, if_true, ref_null, if_false, ne_eq, not_true_eq_false, not_false_eq_true, decide_true, decide_false, decide_not, Bool.true_and, Bool.false_and, Bool.and_true, Bool.and_false, Bool.true_or, Bool.false_or, Bool.or_true, Bool.or_false, Bool.not_true, Bool.not_false, Bool.false_eq_true, bI_t, bI_f, Int.natCast_one, Int.cast_ofNat_Int, Int.natCast_zero, ju_self, ju_ne, m0, f5, ck, w1, w2', F8018_23, r1, cV_th, bZ_f]
end
