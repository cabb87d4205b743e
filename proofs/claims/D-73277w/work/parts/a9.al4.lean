/-! strings are compared; ArrayList.indexOf, its iterator -/
-- jc_ref, rI_int, rR_ref, rR_null, rJ_long, ckR_ref, ckR_null, ckr_ref, ckr_null, ckW_int, ckW_ref, ckW_null, cI_ok, cR_ok, cR_null, cV_ok, cJ_ok, qH_eq, qD_in, aG_ref, aS_ref, aL_ref, pF_ref, cK_ref, cK_null, zI_lit, zJ_lit, zI_add, zI_sub, zI_mul, zI_neg, zI_eq, zI_lt, zI_le, Int.reduceLT, Int.reduceLE, Int.reduceAdd, Int.reduceSub, Int.reduceMul, Int.reduceNeg, Int.reduceEq, Int.reduceNe, reduceIte, jf_in, pFc_in, aGc_V, aLc_in, cKc_in, nA_in, jm_s1, jm_s2, jm_p1, jm_p2, ckR_is, ckr_is, rR_is, ckW_is, cR_is, obi, oAL_0, oAL_1, oAL_2, oALs_0, oALs_1, oALs_2 = jc_ref, rI_int, rR_ref, rR_null, rJ_long, ckR_ref, ckR_null, ckr_ref, ckr_null, ckW_int, ckW_ref, ckW_null, cI_ok, cR_ok, cR_null, cV_ok, cJ_ok, qH_eq, qD_in, aG_ref, aS_ref, aL_ref, pF_ref, cK_ref, cK_null, zI_lit, zJ_lit, zI_add, zI_sub, zI_mul, zI_neg, zI_eq, zI_lt, zI_le, Int.reduceLT, Int.reduceLE, Int.reduceAdd, Int.reduceSub, Int.reduceMul, Int.reduceNeg, Int.reduceEq, Int.reduceNe, reduceIte, jf_in, pFc_in, aGc_V, aLc_in, cKc_in, nA_in, jm_s1, jm_s2, jm_p1, jm_p2, ckR_is, ckr_is, rR_is, ckW_is, cR_is, obi, oAL_0, oAL_1, oAL_2, oALs_0, oALs_1, oALs_2
theorem StrAt.lo {Fo : Nat → Option Cl} {h H : AH} {a : Nat} {b : List Int} (R : RX Fo h H) (s : StrAt H a b) : StrAt h a b := by
  obtain ⟨t, e, te, f, g, ⟨x1, x2, x3, x4⟩, y1, y2, y3⟩ := s
  refine ⟨t, e, te, f, g, ⟨R.get x1 ?_, x2, x3, x4⟩, R.get y1 ?_, y2, y3⟩
  · exact psT_200 (by show t < 200; omega)
  · exact psT_1000 (by show 1000 ≤ te; omega)
section
variable {β : Type} {d : Nat} {h : AH} {a c t n : Nat} {f : Nat → Value} {b b2 : List Int}
theorem iT_in {T T2 : List Nat} {κ : Int32 → Option β} {u : Ph κ} (m : jm h c = some (t, n, f)) (ht : T.elem t = true) : zqT h (.ref c) T T2 κ u = κ 1 := by
  show iK h (.ref c) T T2 κ = _
  simp only [iK, m]
  rw [if_pos (List.elem_iff.mp ht)]
theorem getZ_in {l : List Int} {k : Nat} (h : k < l.length) : l.getD k 0 ∈ l := by
  rw [List.getD_eq_getElem?_getD, List.getElem?_eq_getElem h]
  exact List.getElem_mem h
theorem aGb2 {te : Nat} {g : Nat → Value} {i : Int} {κ : Value → Option β} {u : Ph κ} (hte : te = 1010 ∨ te = 1011) (h1 : 0 ≤ i) (h2 : i < (n : Int)) (hn : n < 2147483648) : aGc (some (te, n, g)) [1010, 1011, 1020] (zI i) κ u = κ (g i.toNat) := aGc_V (by rcases hte with rfl | rfl <;> rfl) h1 h2 hn
theorem aLb2 {te : Nat} {g : Nat → Value} {κ : Int32 → Option β} {u : Ph κ} (hte : te = 1010 ∨ te = 1011) : aLc (some (te, n, g)) κ u = κ (zI (n : Int)) := aLc_in (by rcases hte with rfl | rfl <;> rfl)
theorem le_loop {e e2 te te2 : Nat} {g g2 : Nat → Value} (m1 : jm h e = some (te, b.length, g)) (m2 : jm h e2 = some (te2, b2.length, g2)) (t1 : te = 1010 ∨ te = 1011) (t2 : te2 = 1010 ∨ te2 = 1011)
    (v1 : ∀ k, k < b.length → g k = .int (zI (b.getD k 0))) (v2 : ∀ k, k < b2.length → g2 k = .int (zI (b2.getD k 0))) (r1 : ∀ z ∈ b, 0 ≤ z ∧ z < 128) (r2 : ∀ z ∈ b2, 0 ≤ z ∧ z < 128) (hl : b.length = b2.length) (hb : b.length < 100000) :
    ∀ (j : Nat) (i : Int), 0 ≤ i → i + j = b.length → G d 54007 9 [.ref e, .ref e2, .int (zI i)] [] h = some (.inl (some (.int (if b.drop i.toNat = b2.drop i.toNat then 1 else 0))), h) := by
  intro j
  induction j with
  | zero =>
    intro i i0 hi
    have q1 : b.drop i.toNat = [] := List.drop_eq_nil_of_le (by omega)
    have q2 : b2.drop i.toNat = [] := List.drop_eq_nil_of_le (by omega)
    rw [E54007_9, q1, q2, if_pos rfl]
    simp (disch := first | assumption | omega | decide | exact okF_i | exact okF_r | exact okF_n | exact okF_j | rfl) only [jc_ref, rI_int, rR_ref, rR_null, rJ_long, ckR_ref, ckR_null, ckr_ref, ckr_null, ckW_int, ckW_ref, ckW_null, cI_ok, cR_ok, cR_null, cV_ok, cJ_ok, qH_eq, qD_in, aG_ref, aS_ref, aL_ref, pF_ref, cK_ref, cK_null, zI_lit, zJ_lit, zI_add, zI_sub, zI_mul, zI_neg, zI_eq, zI_lt, zI_le, Int.reduceLT, Int.reduceLE, Int.reduceAdd, Int.reduceSub, Int.reduceMul, Int.reduceNeg, Int.reduceEq, Int.reduceNe, reduceIte, m1, aLb2]
    rw [if_pos (by omega)]
  | succ j ih =>
    intro i i0 hi
    have ih' := ih (i + 1) (by omega) (by omega)
    have li : i.toNat < b.length := by omega
    have li2 : i.toNat < b2.length := by omega
    have x1 := r1 _ (getZ_in li)
    have x2 := r2 _ (getZ_in li2)
    rw [E54007_9]
    simp (disch := first | assumption | omega | decide | exact okF_i | exact okF_r | exact okF_n | exact okF_j | rfl) only [jc_ref, rI_int, rR_ref, rR_null, rJ_long, ckR_ref, ckR_null, ckr_ref, ckr_null, ckW_int, ckW_ref, ckW_null, cI_ok, cR_ok, cR_null, cV_ok, cJ_ok, qH_eq, qD_in, aG_ref, aS_ref, aL_ref, pF_ref, cK_ref, cK_null, zI_lit, zJ_lit, zI_add, zI_sub, zI_mul, zI_neg, zI_eq, zI_lt, zI_le, Int.reduceLT, Int.reduceLE, Int.reduceAdd, Int.reduceSub, Int.reduceMul, Int.reduceNeg, Int.reduceEq, Int.reduceNe, reduceIte, m1, m2, aLb2, aGb2, v1, v2]
    rw [if_neg (by omega)]
    rw [List.drop_eq_getElem_cons li, List.drop_eq_getElem_cons li2]
    have y1 : b.getD i.toNat 0 = b[i.toNat] := by rw [List.getD_eq_getElem?_getD, List.getElem?_eq_getElem li]; rfl
    have y2 : b2.getD i.toNat 0 = b2[i.toNat] := by rw [List.getD_eq_getElem?_getD, List.getElem?_eq_getElem li2]; rfl
    by_cases q : b.getD i.toNat 0 = b2.getD i.toNat 0
    · rw [if_pos q, ih', show (i + 1).toNat = i.toNat + 1 by omega]
      rw [y1, y2] at q
      rw [q]
      simp only [List.cons.injEq, true_and]
      rfl
    · rw [if_neg q]
      rw [y1, y2] at q
      rw [if_neg (fun z => q (List.cons.inj z).1)]
theorem str_eq (s1 : StrAt h a b) (s2 : StrAt h c b2) : M (d + 2) 50008 [.ref a, .ref c] h = some (.inl (some (.int (if b = b2 then 1 else 0))), h) := by
  have s1' := s1
  obtain ⟨t, e, te, f, g, ⟨x1, x2, x3, x4⟩, y1, y2, y3, y4, y5⟩ := s1
  have hr : jrecv 50008 [.ref a, .ref c] h = true := jrecv_in x1 (by rcases x2 with rfl | rfl <;> rfl)
  rw [X50008 h rfl hr, E50008_0]
  by_cases hac : a = c
  · subst hac
    rw [s1'.un s2, if_pos rfl]
    simp only [jc_ref, rI_int, rR_ref, rR_null, rJ_long, ckR_ref, ckR_null, ckr_ref, ckr_null, ckW_int, ckW_ref, ckW_null, cI_ok, cR_ok, cR_null, cV_ok, cJ_ok, qH_eq, qD_in, aG_ref, aS_ref, aL_ref, pF_ref, cK_ref, cK_null, if_true]
  · obtain ⟨t2, e2, te2, f2, g2, ⟨p1, p2, p3, p4⟩, q1, q2, q3, q4, q5⟩ := s2
    have hx : ¬ ((.ref a : Value) = .ref c) := fun z => hac (by cases z; rfl)
    have ht2 : [50, 150].elem t2 = true := by rcases p2 with rfl | rfl <;> rfl
    have ht1 : [50, 150].elem t = true := by rcases x2 with rfl | rfl <;> rfl
    have hL : M (d + 1) 54007 [.ref e, .ref e2] h = some (.inl (some (.int (if b = b2 then 1 else 0))), h) := by
      rw [X54007 h rfl rfl, E54007_0]
      simp (disch := first | assumption | omega | decide | exact okF_i | exact okF_r | exact okF_n | exact okF_j | rfl) only [jc_ref, rI_int, rR_ref, rR_null, rJ_long, ckR_ref, ckR_null, ckr_ref, ckr_null, ckW_int, ckW_ref, ckW_null, cI_ok, cR_ok, cR_null, cV_ok, cJ_ok, qH_eq, qD_in, aG_ref, aS_ref, aL_ref, pF_ref, cK_ref, cK_null, zI_lit, zJ_lit, zI_add, zI_sub, zI_mul, zI_neg, zI_eq, zI_lt, zI_le, Int.reduceLT, Int.reduceLE, Int.reduceAdd, Int.reduceSub, Int.reduceMul, Int.reduceNeg, Int.reduceEq, Int.reduceNe, reduceIte, y1, q1, aLb2]
      by_cases hl : (b.length : Int) = b2.length
      · rw [if_pos hl, le_loop y1 q1 y2 q2 y3 q3 y4 q4 (by omega) (by omega) b.length 0 (by omega) (by omega)]
        rfl
      · rw [if_neg hl, if_neg (fun z => hl (by rw [z]))]
    have h1 : (1 : Int32) = 0 ↔ False := by decide
    simp only [jc_ref, rI_int, rR_ref, rR_null, rJ_long, ckR_ref, ckR_null, ckr_ref, ckr_null, ckW_int, ckW_ref, ckW_null, cI_ok, cR_ok, cR_null, cV_ok, cJ_ok, qH_eq, qD_in, aG_ref, aS_ref, aL_ref, pF_ref, cK_ref, cK_null, if_neg hx]
    rw [iT_in p1 ht2]
    simp only [h1, if_false, jc_ref, rI_int, rR_ref, rR_null, rJ_long, ckR_ref, ckR_null, ckr_ref, ckr_null, ckW_int, ckW_ref, ckW_null, cI_ok, cR_ok, cR_null, cV_ok, cJ_ok, qH_eq, qD_in, aG_ref, aS_ref, aL_ref, pF_ref, cK_ref, cK_null, p1, x1, cKc_in ht2, jf_in ht1, jf_in ht2, x3, x4, p3, p4, if_true, hL]
    by_cases hb : b = b2
    · rw [if_pos hb, if_neg (by decide)]
    · rw [if_neg hb, if_pos rfl]
end
section
variable {Fo : Nat → Option Cl} {h H : AH} {d : Nat} {as : List Value}
theorem pm_streq (R : RX Fo h H) : SimR Fo (pSTeq as H) (M (d + 12) 50008 as h) := by
  intro o H2 e
  unfold pSTeq at e
  split at e
  · obtain ⟨b, s1, e⟩ := wSt_inv e
    obtain ⟨b2, s2, e⟩ := wSt_inv e
    cases e
    refine ⟨h, (str_eq (d := d + 10) (s1.lo R) (s2.lo R)).trans ?_, R⟩
    by_cases q : b = b2
    · rw [if_pos q, decide_eq_true q]; rfl
    · rw [if_neg q, decide_eq_false q]; rfl
  · cases e
theorem ix_loop {a b e0 cap : Nat} {s : List Int} {l : List Value} {L : List (List Int)} {g : Nat → Value} {i2 : Int32} (hs : StrAt h b s) (hL : l.length = L.length ∧ ∀ k, k < L.length → ∃ q, l.getD k .null = .ref q ∧ StrAt h q (L.getD k [])) (m : jm h e0 = some (1040, cap, g)) (hg : ∀ k, k < cap → g k = l.getD k .null) (hl : l.length ≤ cap) (hc : cap < 100000) :
    ∀ (j : Nat) (k : Int), 0 ≤ k → k + j = l.length → G (d + 2) 43009 42 [.ref a, .ref b, .int i2, .int (zI l.length), .ref e0, .int (zI k)] [] h = some (.inl (some (.int (zI (fstS s (L.drop k.toNat) k.toNat)))), h) := by
  intro j
  induction j with
  | zero =>
    intro k k0 hk
    rw [E43009_42]
    simp (disch := omega) only [zI_lit, zJ_lit, zI_add, zI_sub, zI_mul, zI_neg, zI_eq, zI_lt, zI_le, Int.reduceLT, Int.reduceLE, Int.reduceAdd, Int.reduceSub, Int.reduceMul, Int.reduceNeg, Int.reduceEq, Int.reduceNe, reduceIte]
    rw [if_pos (by omega), List.drop_eq_nil_of_le (by omega)]
    rfl
  | succ j ih =>
    intro k k0 hk
    have ih' := ih (k + 1) (by omega) (by omega)
    have lk : k.toNat < L.length := by omega
    obtain ⟨q, q1, q2⟩ := hL.2 k.toNat lk
    have hgk := hg k.toNat (by omega)
    rw [q1] at hgk
    have he := str_eq (d := d) hs q2
    rw [E43009_42]
    simp (disch := first | assumption | omega | decide | exact okF_i | exact okF_r | exact okF_n | exact okF_j | rfl) only [jc_ref, rI_int, rR_ref, rR_null, rJ_long, ckR_ref, ckR_null, ckr_ref, ckr_null, ckW_int, ckW_ref, ckW_null, cI_ok, cR_ok, cR_null, cV_ok, cJ_ok, qH_eq, qD_in, aG_ref, aS_ref, aL_ref, pF_ref, cK_ref, cK_null, zI_lit, zJ_lit, zI_add, zI_sub, zI_mul, zI_neg, zI_eq, zI_lt, zI_le, Int.reduceLT, Int.reduceLE, Int.reduceAdd, Int.reduceSub, Int.reduceMul, Int.reduceNeg, Int.reduceEq, Int.reduceNe, reduceIte, m, aGc_V, hgk, he]
    rw [if_neg (by omega), List.drop_eq_getElem_cons lk]
    have y1 : L.getD k.toNat [] = L[k.toNat] := by rw [List.getD_eq_getElem?_getD, List.getElem?_eq_getElem lk]; rfl
    rw [y1]
    simp only [fstS]
    by_cases hq : s = L[k.toNat]
    · rw [if_pos hq, if_pos hq.symm, if_neg (by decide)]
      rw [show ((k.toNat : Nat) : Int) = k by omega]
    · rw [if_neg hq, if_neg (Ne.symm hq), if_pos (by decide), ih', show (k + 1).toNat = k.toNat + 1 by omega]
theorem pm_index (R : RX Fo h H) : SimR Fo (pALindex as H) (M (d + 12) 43008 as h) := by
  intro o H2 e
  unfold pALindex at e
  split at e
  · rename_i a b
    obtain ⟨cap, mc, l, m, e⟩ := wAL_inv e
    obtain ⟨hc, e⟩ := wIf_inv e
    obtain ⟨s, hs, e⟩ := wSt_inv e
    obtain ⟨L, hL, e⟩ := wX_inv e
    cases e
    have hs2 := hs.lo R
    have hL2 : l.length = L.length ∧ ∀ k, k < L.length → ∃ q, l.getD k .null = .ref q ∧ StrAt h q (L.getD k []) := ⟨hL.1, fun k hk => by
      obtain ⟨q, q1, q2⟩ := hL.2 k hk
      exact ⟨q, q1, q2.lo R⟩⟩
    refine ⟨h, ?_, R⟩
    obtain ⟨W, R⟩ := R
    obtain ⟨hl, hr, e0, g, h1, h2⟩ := R.al m
    have h1 : jm h a = some (43, 3, oAL mc e0 l.length) := h1
    have hb : (.ref b : Value) ≠ .null := fun z => by cases z
    rw [X43008 (d := d + 11) h rfl (jrecv_in h1 rfl), E43008_0]
    simp (disch := first | assumption | omega | decide | exact okF_i | exact okF_r | exact okF_n | exact okF_j | rfl) only [jc_ref, rI_int, rR_ref, rR_null, rJ_long, ckR_ref, ckR_null, ckr_ref, ckr_null, ckW_int, ckW_ref, ckW_null, cI_ok, cR_ok, cR_null, cV_ok, cJ_ok, qH_eq, qD_in, aG_ref, aS_ref, aL_ref, pF_ref, cK_ref, cK_null, zI_lit, zJ_lit, zI_add, zI_sub, zI_mul, zI_neg, zI_eq, zI_lt, zI_le, Int.reduceLT, Int.reduceLE, Int.reduceAdd, Int.reduceSub, Int.reduceMul, Int.reduceNeg, Int.reduceEq, Int.reduceNe, reduceIte, jf_in, pFc_in, aGc_V, aLc_in, cKc_in, nA_in, jm_s1, jm_s2, jm_p1, jm_p2, ckR_is, ckr_is, rR_is, ckW_is, cR_is, obi, oAL_0, oAL_1, oAL_2, oALs_0, oALs_1, oALs_2, h1]
    rw [X43009 (d := d + 10) h rfl (jrecv_in h1 rfl), E43009_0]
    simp (disch := first | assumption | omega | decide | exact okF_i | exact okF_r | exact okF_n | exact okF_j | rfl) only [jc_ref, rI_int, rR_ref, rR_null, rJ_long, ckR_ref, ckR_null, ckr_ref, ckr_null, ckW_int, ckW_ref, ckW_null, cI_ok, cR_ok, cR_null, cV_ok, cJ_ok, qH_eq, qD_in, aG_ref, aS_ref, aL_ref, pF_ref, cK_ref, cK_null, zI_lit, zJ_lit, zI_add, zI_sub, zI_mul, zI_neg, zI_eq, zI_lt, zI_le, Int.reduceLT, Int.reduceLE, Int.reduceAdd, Int.reduceSub, Int.reduceMul, Int.reduceNeg, Int.reduceEq, Int.reduceNe, reduceIte, jf_in, pFc_in, aGc_V, aLc_in, cKc_in, nA_in, jm_s1, jm_s2, jm_p1, jm_p2, ckR_is, ckr_is, rR_is, ckW_is, cR_is, obi, oAL_0, oAL_1, oAL_2, oALs_0, oALs_1, oALs_2, h1, if_neg hb]
    rcases h2 with ⟨c0, -⟩ | ⟨c0, w, m2, hg⟩
    · have l0 : l = [] := List.eq_nil_of_length_eq_zero (by omega)
      subst l0
      have L0 : L = [] := List.eq_nil_of_length_eq_zero hL.1.symm
      subst L0
      rw [E43009_42]
      simp (disch := omega) only [zI_lit, zJ_lit, zI_add, zI_sub, zI_mul, zI_neg, zI_eq, zI_lt, zI_le, Int.reduceLT, Int.reduceLE, Int.reduceAdd, Int.reduceSub, Int.reduceMul, Int.reduceNeg, Int.reduceEq, Int.reduceNe, reduceIte]
      rfl
    · have := ix_loop (d := d + 8) (a := a) (i2 := zI 0) hs2 hL2 m2 hg hl hc l.length 0 (by omega) (by omega)
      rw [this]
      simp only [jc_ref, rI_int, rR_ref, rR_null, rJ_long, ckR_ref, ckR_null, ckr_ref, ckr_null, ckW_int, ckW_ref, ckW_null, cI_ok, cR_ok, cR_null, cV_ok, cJ_ok, qH_eq, qD_in, aG_ref, aS_ref, aL_ref, pF_ref, cK_ref, cK_null]
      rfl
  · cases e
end
