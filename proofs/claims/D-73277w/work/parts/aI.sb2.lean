/-! StringBuilder: numbers, toString; what its methods do to the cell that stands for it -/
-- jc_ref, rI_int, rR_ref, rR_null, rJ_long, ckR_ref, ckR_null, ckr_ref, ckr_null, ckW_int, ckW_ref, ckW_null, cI_ok, cR_ok, cR_null, cV_ok, cJ_ok, qH_eq, qD_in, aG_ref, aS_ref, aL_ref, pF_ref, cK_ref, cK_null, zI_lit, zJ_lit, zI_add, zI_sub, zI_mul, zI_neg, zI_eq, zI_lt, zI_le, Int.reduceLT, Int.reduceLE, Int.reduceAdd, Int.reduceSub, Int.reduceMul, Int.reduceNeg, Int.reduceEq, Int.reduceNe, reduceIte, jf_in, pFc_in, aGc_V, aLc_in, cKc_in, nA_in, jm_s1, jm_s2, jm_p1, jm_p2, ckR_is, ckr_is, rR_is, ckW_is, cR_is, obi, okFb0, oSB_0, oSB_1, oSB_3, oSBs_0, oSBs_1, oSBs_3, nSBs_0, nSBs_1, sar0, shl0 = jc_ref, rI_int, rR_ref, rR_null, rJ_long, ckR_ref, ckR_null, ckr_ref, ckr_null, ckW_int, ckW_ref, ckW_null, cI_ok, cR_ok, cR_null, cV_ok, cJ_ok, qH_eq, qD_in, aG_ref, aS_ref, aL_ref, pF_ref, cK_ref, cK_null, zI_lit, zJ_lit, zI_add, zI_sub, zI_mul, zI_neg, zI_eq, zI_lt, zI_le, Int.reduceLT, Int.reduceLE, Int.reduceAdd, Int.reduceSub, Int.reduceMul, Int.reduceNeg, Int.reduceEq, Int.reduceNe, reduceIte, jf_in, pFc_in, aGc_V, aLc_in, cKc_in, nA_in, jm_s1, jm_s2, jm_p1, jm_p2, ckR_is, ckr_is, rR_is, ckW_is, cR_is, obi, okFb0, oSB_0, oSB_1, oSB_3, oSBs_0, oSBs_1, oSBs_3, nSBs_0, nSBs_1, sar0, shl0
section
variable {d : Nat} {h : AH} {a e cap : Nat} {g : Nat → Value} {ml : Int32} {u i : Int} {b : List Int}
theorem m_ssize (i0 : 0 ≤ i) (i1 : i < 100) : M (d + 1) 62008 [.int (zI i)] h = some (.inl (some (.int (zI (dgs i).length))), h) := by
  rw [X62008 h, E62008_0]
  simp (disch := omega) only [zI_lit, zJ_lit, zI_add, zI_sub, zI_mul, zI_neg, zI_eq, zI_lt, zI_le, Int.reduceLT, Int.reduceLE, Int.reduceAdd, Int.reduceSub, Int.reduceMul, Int.reduceNeg, Int.reduceEq, Int.reduceNe, reduceIte]
  rw [if_neg (by omega), E62008_16]
  simp (disch := omega) only [zI_lit, zJ_lit, zI_add, zI_sub, zI_mul, zI_neg, zI_eq, zI_lt, zI_le, Int.reduceLT, Int.reduceLE, Int.reduceAdd, Int.reduceSub, Int.reduceMul, Int.reduceNeg, Int.reduceEq, Int.reduceNe, reduceIte]
  unfold dgs
  by_cases c : i < 10
  · rw [if_neg (by omega), if_pos c]; rfl
  · rw [if_pos (by omega), if_neg c, E62008_16]
    simp (disch := omega) only [zI_lit, zJ_lit, zI_add, zI_sub, zI_mul, zI_neg, zI_eq, zI_lt, zI_le, Int.reduceLT, Int.reduceLE, Int.reduceAdd, Int.reduceSub, Int.reduceMul, Int.reduceNeg, Int.reduceEq, Int.reduceNe, reduceIte]
    rw [if_neg (by omega)]
    rfl
theorem putB1 {n : Nat} {x : Int} : ju g n (.int (zI x)) = putB g n [x] := by
  funext k
  unfold putB ju
  by_cases hk : k = n
  · subst hk; rw [if_pos rfl, if_pos (by simp)]; simp
  · rw [if_neg hk, if_neg (by simp; omega)]
theorem putB2 {n : Nat} {x y : Int} : ju (ju g (n + 1) (.int (zI y))) n (.int (zI x)) = putB g n [x, y] := by
  funext k
  unfold putB ju
  by_cases hk : k = n
  · subst hk; rw [if_pos rfl, if_pos (by simp)]; simp
  · rw [if_neg hk]
    by_cases hk2 : k = n + 1
    · subst hk2; rw [if_pos rfl, if_pos (by simp)]; simp
    · rw [if_neg hk2, if_neg (by simp; omega)]
theorem m_getCh {n a7 a8 : Nat} {f7 f8 : Nat → Value} (h7 : je h 7 = .ref a7) (m7 : jm h a7 = some (1011, 100, f7)) (c7 : ∀ k : Nat, k < 100 → f7 k = .int (zI ((48 + k % 10 : Nat) : Int))) (h8 : je h 8 = .ref a8) (m8 : jm h a8 = some (1011, 100, f8)) (c8 : ∀ k : Nat, k < 100 → f8 k = .int (zI ((48 + k / 10 : Nat) : Int)))
    (h2 : jm h e = some (1010, cap, g)) (i0 : 0 ≤ i) (i1 : i < 100) (hl : n + (dgs i).length ≤ cap) (hc : cap < 1000000) : ∃ x, M (d + 1) 62004 [.int (zI i), .int (zI (n + (dgs i).length : Nat)), .ref e] h = some (.inl (some (.int x)), jset h e (1010, cap, putB g n (dgs i))) := by
  have ne8 : a8 ≠ e := by
    rintro rfl
    rw [m8] at h2; cases h2
  have k7 := c7 i.toNat (by omega)
  have k8 := c8 i.toNat (by omega)
  have hni : - -i = i := by omega
  by_cases c : i < 10
  · have hd : dgs i = [48 + i] := by unfold dgs; rw [if_pos c]
    rw [hd] at hl ⊢
    simp only [List.length_cons, List.length_nil, Nat.zero_add] at hl ⊢
    refine ⟨zI (((n + 1 : Nat) : Int) + -1), ?_⟩
    rw [X62004 h rfl, E62004_0]
    simp (disch := omega) only [zI_lit, zJ_lit, zI_add, zI_sub, zI_mul, zI_neg, zI_eq, zI_lt, zI_le, Int.reduceLT, Int.reduceLE, Int.reduceAdd, Int.reduceSub, Int.reduceMul, Int.reduceNeg, Int.reduceEq, Int.reduceNe, reduceIte]
    rw [if_pos i0, E62004_22]
    have e3 := fun (κ : AH → Rz) (v : Ph κ) => aSb_V (κ := κ) (v := v) (x := zI ((48 + i.toNat % 10 : Nat) : Int)) (i := ((n + 1 : Nat) : Int) + -1) h2 (by omega) (by omega) (by omega)
    simp (disch := first | assumption | omega | decide | exact okF_i | exact okF_r | exact okF_n | exact okF_j | rfl) only [jc_ref, rI_int, rR_ref, rR_null, rJ_long, ckR_ref, ckR_null, ckr_ref, ckr_null, ckW_int, ckW_ref, ckW_null, cI_ok, cR_ok, cR_null, cV_ok, cJ_ok, qH_eq, qD_in, aG_ref, aS_ref, aL_ref, pF_ref, cK_ref, cK_null, zI_lit, zJ_lit, zI_add, zI_sub, zI_mul, zI_neg, zI_eq, zI_lt, zI_le, Int.reduceLT, Int.reduceLE, Int.reduceAdd, Int.reduceSub, Int.reduceMul, Int.reduceNeg, Int.reduceEq, Int.reduceNe, reduceIte, jf_in, pFc_in, aGc_V, aLc_in, cKc_in, nA_in, jm_s1, jm_s2, jm_p1, jm_p2, ckR_is, ckr_is, rR_is, ckW_is, cR_is, obi, h7, m7, hni, aGb2, k7, e3, smB]
    rw [if_pos (by omega), if_pos (by omega)]
    rw [show (((n + 1 : Nat) : Int) + -1).toNat = n by omega, putB1, show ((48 + i.toNat % 10 : Nat) : Int) = 48 + i by omega]
  · have hd : dgs i = [48 + i / 10, 48 + i % 10] := by unfold dgs; rw [if_neg c]
    rw [hd] at hl ⊢
    simp only [List.length_cons, List.length_nil, Nat.zero_add] at hl ⊢
    refine ⟨zI (((n + (1 + 1) : Nat) : Int) + -1 + -1), ?_⟩
    rw [X62004 h rfl, E62004_0]
    simp (disch := omega) only [zI_lit, zJ_lit, zI_add, zI_sub, zI_mul, zI_neg, zI_eq, zI_lt, zI_le, Int.reduceLT, Int.reduceLE, Int.reduceAdd, Int.reduceSub, Int.reduceMul, Int.reduceNeg, Int.reduceEq, Int.reduceNe, reduceIte]
    rw [if_pos i0, E62004_22]
    have e3 := fun (κ : AH → Rz) (v : Ph κ) => aSb_V (κ := κ) (v := v) (x := zI ((48 + i.toNat % 10 : Nat) : Int)) (i := ((n + (1 + 1) : Nat) : Int) + -1) h2 (by omega) (by omega) (by omega)
    have e4 := fun (κ : AH → Rz) (v : Ph κ) => aSb_V (κ := κ) (v := v) (x := zI ((48 + i.toNat / 10 : Nat) : Int)) (i := ((n + (1 + 1) : Nat) : Int) + -1 + -1) (h := jset h e (1010, cap, ju g (((n + (1 + 1) : Nat) : Int) + -1).toNat (.int (zI ((48 + i.toNat % 10 : Nat) : Int))))) jm_s1 (by omega) (by omega) (by omega)
    simp (disch := first | assumption | omega | decide | exact okF_i | exact okF_r | exact okF_n | exact okF_j | rfl) only [jc_ref, rI_int, rR_ref, rR_null, rJ_long, ckR_ref, ckR_null, ckr_ref, ckr_null, ckW_int, ckW_ref, ckW_null, cI_ok, cR_ok, cR_null, cV_ok, cJ_ok, qH_eq, qD_in, aG_ref, aS_ref, aL_ref, pF_ref, cK_ref, cK_null, zI_lit, zJ_lit, zI_add, zI_sub, zI_mul, zI_neg, zI_eq, zI_lt, zI_le, Int.reduceLT, Int.reduceLE, Int.reduceAdd, Int.reduceSub, Int.reduceMul, Int.reduceNeg, Int.reduceEq, Int.reduceNe, reduceIte, jf_in, pFc_in, aGc_V, aLc_in, cKc_in, nA_in, jm_s1, jm_s2, jm_p1, jm_p2, ckR_is, ckr_is, rR_is, ckW_is, cR_is, obi, h7, m7, hni, aGb2, k7, e3, smB]
    rw [if_pos (by omega), if_neg (by omega)]
    simp (disch := first | assumption | omega | decide | exact okF_i | exact okF_r | exact okF_n | exact okF_j | rfl) only [jc_ref, rI_int, rR_ref, rR_null, rJ_long, ckR_ref, ckR_null, ckr_ref, ckr_null, ckW_int, ckW_ref, ckW_null, cI_ok, cR_ok, cR_null, cV_ok, cJ_ok, qH_eq, qD_in, aG_ref, aS_ref, aL_ref, pF_ref, cK_ref, cK_null, zI_lit, zJ_lit, zI_add, zI_sub, zI_mul, zI_neg, zI_eq, zI_lt, zI_le, Int.reduceLT, Int.reduceLE, Int.reduceAdd, Int.reduceSub, Int.reduceMul, Int.reduceNeg, Int.reduceEq, Int.reduceNe, reduceIte, jf_in, pFc_in, aGc_V, aLc_in, cKc_in, nA_in, jm_s1, jm_s2, jm_p1, jm_p2, ckR_is, ckr_is, rR_is, ckW_is, cR_is, obi, je_set, h8, jm_s2, m8, hni, aGb2, k8, e4, smB, jset_jset, if_true]
    rw [show (((n + (1 + 1) : Nat) : Int) + -1).toNat = n + 1 by omega, show (((n + (1 + 1) : Nat) : Int) + -1 + -1).toNat = n by omega, putB2, show ((48 + i.toNat % 10 : Nat) : Int) = 48 + i % 10 by omega, show ((48 + i.toNat / 10 : Nat) : Int) = 48 + i / 10 by omega]
theorem sb_appI {h9 : AH} {e9 a7 a8 : Nat} {f7 f8 : Nat → Value} (h1 : jm h a = some (49, 4, oSB e ml u)) (u0 : 0 ≤ u) (i0 : 0 ≤ i) (i1 : i < 100) (hx : M (d + 4) 48005 [.ref a, .int (zI (u + (dgs i).length))] h = some (.inl none, h9)) (g1 : jm h9 a = some (49, 4, oSB e9 ml u)) (g2 : jm h9 e9 = some (1010, cap, g)) (hl : u + (dgs i).length ≤ cap) (hc : cap < 1000000)
    (h7 : je h9 7 = .ref a7) (m7 : jm h9 a7 = some (1011, 100, f7)) (c7 : ∀ k : Nat, k < 100 → f7 k = .int (zI ((48 + k % 10 : Nat) : Int))) (h8 : je h9 8 = .ref a8) (m8 : jm h9 a8 = some (1011, 100, f8)) (c8 : ∀ k : Nat, k < 100 → f8 k = .int (zI ((48 + k / 10 : Nat) : Int))) :
    M (d + 6) 49003 [.ref a, .int (zI i)] h = some (.inl (some (.ref a)), jset (jset h9 e9 (1010, cap, putB g u.toNat (dgs i))) a (49, 4, oSB e9 ml (u + (dgs i).length))) := by
  have nae : a ≠ e9 := by
    rintro rfl
    rw [g1] at g2; cases g2
  have e1 := m_ssize (d := d + 3) (h := h) i0 i1
  have e2 := sb_lat (d := d + 3) g1
  obtain ⟨x, e3⟩ := m_getCh (d := d + 3) (n := u.toNat) h7 m7 c7 h8 m8 c8 g2 i0 i1 (by omega) hc
  rw [show ((u.toNat + (dgs i).length : Nat) : Int) = u + (dgs i).length by omega] at e3
  have e5 : M (d + 5) 48003 [.ref a, .int (zI i)] h = some (.inl (some (.ref a)), jset (jset h9 e9 (1010, cap, putB g u.toNat (dgs i))) a (49, 4, oSB e9 ml (u + (dgs i).length))) := by
    rw [X48003 h (jrecv_in h1 rfl), E48003_0]
    simp (disch := first | assumption | omega | decide | exact okF_i | exact okF_r | exact okF_n | exact okF_j | rfl) only [jc_ref, rI_int, rR_ref, rR_null, rJ_long, ckR_ref, ckR_null, ckr_ref, ckr_null, ckW_int, ckW_ref, ckW_null, cI_ok, cR_ok, cR_null, cV_ok, cJ_ok, qH_eq, qD_in, aG_ref, aS_ref, aL_ref, pF_ref, cK_ref, cK_null, zI_lit, zJ_lit, zI_add, zI_sub, zI_mul, zI_neg, zI_eq, zI_lt, zI_le, Int.reduceLT, Int.reduceLE, Int.reduceAdd, Int.reduceSub, Int.reduceMul, Int.reduceNeg, Int.reduceEq, Int.reduceNe, reduceIte, jf_in, pFc_in, aGc_V, aLc_in, cKc_in, nA_in, jm_s1, jm_s2, jm_p1, jm_p2, ckR_is, ckr_is, rR_is, ckW_is, cR_is, obi, okFb0, oSB_0, oSB_1, oSB_3, oSBs_0, oSBs_1, oSBs_3, nSBs_0, nSBs_1, sar0, shl0, h1, e1, hx, e2, g1, e3, jm_s2]
  rw [X49003 h (jrecv_in h1 rfl), E49003_0]
  simp (disch := first | assumption | omega | decide | exact okF_i | exact okF_r | exact okF_n | exact okF_j | rfl) only [jc_ref, rI_int, rR_ref, rR_null, rJ_long, ckR_ref, ckR_null, ckr_ref, ckr_null, ckW_int, ckW_ref, ckW_null, cI_ok, cR_ok, cR_null, cV_ok, cJ_ok, qH_eq, qD_in, aG_ref, aS_ref, aL_ref, pF_ref, cK_ref, cK_null, zI_lit, zJ_lit, zI_add, zI_sub, zI_mul, zI_neg, zI_eq, zI_lt, zI_le, Int.reduceLT, Int.reduceLE, Int.reduceAdd, Int.reduceSub, Int.reduceMul, Int.reduceNeg, Int.reduceEq, Int.reduceNe, reduceIte, jf_in, pFc_in, aGc_V, aLc_in, cKc_in, nA_in, jm_s1, jm_s2, jm_p1, jm_p2, ckR_is, ckr_is, rR_is, ckW_is, cR_is, obi, okFb0, oSB_0, oSB_1, oSB_3, oSBs_0, oSBs_1, oSBs_3, nSBs_0, nSBs_1, sar0, shl0, e5]
def oST (q : Nat) : Nat → Value := jL [.ref q, .int 0, .int 0, .int 0]
theorem oST_s {q : Nat} : ju nSB 0 (.ref q) = oST q := (ju_jL (Nat.le_of_ble_eq_true rfl)).trans rfl
theorem two_new {A A' B B' : Cl} (hA : A.2.1 = A'.2.1) (hB : B.2.1 = B'.2.1) : jset (jset (jpush (jset (jpush h A) h.1 A) B) (h.1 + 1) B') h.1 A' = jpush (jpush h A') B' := by
  refine Prod.ext rfl (Prod.ext ?_ (Prod.ext rfl (funext fun q => ?_)))
  · show h.2.1 + A.2.1 + B.2.1 = h.2.1 + A'.2.1 + B'.2.1
    rw [hA, hB]
  · show (if q = h.1 then some A' else if q = h.1 + 1 then some B' else if q = h.1 + 1 then some B else if q = h.1 then some A else if q = h.1 then some A else h.2.2.2 q) = if q = h.1 + 1 then some B' else if q = h.1 then some A' else h.2.2.2 q
    by_cases c1 : q = h.1
    · rw [if_pos c1, if_neg (by omega), if_pos c1]
    · by_cases c2 : q = h.1 + 1
      · rw [if_neg c1, if_pos c2, if_pos c2]
      · simp only [if_neg c1, if_neg c2]
theorem sb_str (h1 : jm h a = some (49, 4, oSB e ml b.length)) (h2 : jm h e = some (1010, cap, g)) (ha : a < h.1) (he : e < h.1) (hl : b.length < cap) (hc : cap < 100000) (hg : ∀ k, k < b.length → g k = .int (zI (b.getD k 0))) : M (d + 6) 49007 [.ref a] h = some (.inl (some (.ref h.1)), jpush (jpush h (50, 4, oST (h.1 + 1))) (1010, b.length, fun k => .int (zI (b.getD k 0)))) := by
  have nah : a ≠ h.1 := Nat.ne_of_lt ha
  have neh : e ≠ h.1 := Nat.ne_of_lt he
  obtain ⟨hA, ehA⟩ : ∃ hA, hA = jset (jpush h (50, 4, nSB)) h.1 (50, 4, nSB) := ⟨_, rfl⟩
  have nA : hA.1 = h.1 + 1 := by rw [ehA]; rfl
  have f1 : jm hA a = some (49, 4, oSB e ml b.length) := by rw [ehA, jm_s2 nah, jm_p2 nah]; exact h1
  have f2 : jm hA e = some (1010, cap, g) := by rw [ehA, jm_s2 neh, jm_p2 neh]; exact h2
  have f3 : jm hA h.1 = some (50, 4, nSB) := by rw [ehA]; exact jm_s1
  have p1 : jm (jpush h (50, 4, nSB)) a = some (49, 4, oSB e ml b.length) := by rw [jm_p2 nah]; exact h1
  have p3 : jm (jpush h (50, 4, nSB)) h.1 = some (50, 4, nSB) := jm_p1
  obtain ⟨hB, ehB⟩ : ∃ hB, hB = jset (jpush hA (1010, b.length, fun _ => .int (zI 0))) hA.1 (1010, b.length, fun k => .int (zI (b.getD k 0))) := ⟨_, rfl⟩
  have f4 : jm hB h.1 = some (50, 4, nSB) := by rw [ehB, jm_s2 (by rw [nA]; omega), jm_p2 (by rw [nA]; omega)]; exact f3
  have hcp : M (d + 3) 45002 [.ref e, .int (zI 0), .int (zI b.length)] hA = some (.inl (some (.ref hA.1)), hB) := by
    have ep : jm (jpush hA (1010, b.length, fun _ => .int (zI 0))) e = some (1010, cap, g) := by rw [jm_p2 (by rw [nA]; omega)]; exact f2
    have e2 := m_min (d := d + 1) (h := jpush hA (1010, b.length, fun _ => .int (zI 0))) (i := cap) (j := b.length) ⟨by omega, by omega⟩ ⟨by omega, by omega⟩
    rw [Int.min_eq_right (by omega)] at e2
    have e3 := acp (d := d + 1) (sp := 0) (dp := 0) (k := b.length) ep jm_p1 rfl (by omega) (by omega) (by omega) (by omega) (by omega) (by omega) (by omega)
    have e4 : jcpy g (fun _ => .int (zI 0)) (0 : Int).toNat (0 : Int).toNat ((b.length : Nat) : Int).toNat = fun k => .int (zI (b.getD k 0)) := by
      funext k
      unfold jcpy
      simp only [Int.toNat_natCast, show (0 : Int).toNat = 0 from rfl]
      by_cases hk : k < b.length
      · rw [if_pos (by omega), show 0 + (k - 0) = k by omega, hg k hk]
      · rw [if_neg (by omega), List.getD_eq_getElem?_getD, List.getElem?_eq_none (by omega)]; rfl
    rw [e4] at e3
    have e5 : M (d + 2) 45000 [.int (zI 0), .int (zI b.length)] hA = some (.inl none, hA) := by
      rw [X45000 hA, E45000_0]
      simp (disch := omega) only [zI_lit, zJ_lit, zI_add, zI_sub, zI_mul, zI_neg, zI_eq, zI_lt, zI_le, Int.reduceLT, Int.reduceLE, Int.reduceAdd, Int.reduceSub, Int.reduceMul, Int.reduceNeg, Int.reduceEq, Int.reduceNe, reduceIte]
      rw [if_pos (by omega)]
    have e6 : M (d + 2 + 1) 45003 [.ref e, .int (zI 0), .int (zI b.length)] hA = some (.inl (some (.ref hA.1)), hB) := by
      rw [X45003 hA rfl, E45003_0]
      simp (disch := first | assumption | omega | decide | exact okF_i | exact okF_r | exact okF_n | exact okF_j | rfl) only [jc_ref, rI_int, rR_ref, rR_null, rJ_long, ckR_ref, ckR_null, ckr_ref, ckr_null, ckW_int, ckW_ref, ckW_null, cI_ok, cR_ok, cR_null, cV_ok, cJ_ok, qH_eq, qD_in, aG_ref, aS_ref, aL_ref, pF_ref, cK_ref, cK_null, zI_lit, zJ_lit, zI_add, zI_sub, zI_mul, zI_neg, zI_eq, zI_lt, zI_le, Int.reduceLT, Int.reduceLE, Int.reduceAdd, Int.reduceSub, Int.reduceMul, Int.reduceNeg, Int.reduceEq, Int.reduceNe, reduceIte, e5, nA_in, zI_clamp, Int.sub_zero, Int.toNat_natCast, ep, aLc_in, e2, e3]
      rw [ehB]
    rw [X45002 (d := d + 2) hA rfl, E45002_0]
    simp (disch := first | assumption | omega | decide | exact okF_i | exact okF_r | exact okF_n | exact okF_j | rfl) only [jc_ref, rI_int, rR_ref, rR_null, rJ_long, ckR_ref, ckR_null, ckr_ref, ckr_null, ckW_int, ckW_ref, ckW_null, cI_ok, cR_ok, cR_null, cV_ok, cJ_ok, qH_eq, qD_in, aG_ref, aS_ref, aL_ref, pF_ref, cK_ref, cK_null, zI_lit, zJ_lit, zI_add, zI_sub, zI_mul, zI_neg, zI_eq, zI_lt, zI_le, Int.reduceLT, Int.reduceLE, Int.reduceAdd, Int.reduceSub, Int.reduceMul, Int.reduceNeg, Int.reduceEq, Int.reduceNe, reduceIte, f2, aLc_in, if_true]
    rw [if_neg (by omega)]
    have e7 : M (d + 2) 45003 [.ref e, .int (zI 0), .int (zI b.length)] hA = some (.inl (some (.ref hA.1)), hB) := by
      have e2' := m_min (d := d) (h := jpush hA (1010, b.length, fun _ => .int (zI 0))) (i := cap) (j := b.length) ⟨by omega, by omega⟩ ⟨by omega, by omega⟩
      rw [Int.min_eq_right (by omega)] at e2'
      have e3' := acp (d := d) (sp := 0) (dp := 0) (k := b.length) ep jm_p1 rfl (by omega) (by omega) (by omega) (by omega) (by omega) (by omega) (by omega)
      rw [e4] at e3'
      have e5' : M (d + 1) 45000 [.int (zI 0), .int (zI b.length)] hA = some (.inl none, hA) := by
        rw [X45000 hA, E45000_0]
        simp (disch := omega) only [zI_lit, zJ_lit, zI_add, zI_sub, zI_mul, zI_neg, zI_eq, zI_lt, zI_le, Int.reduceLT, Int.reduceLE, Int.reduceAdd, Int.reduceSub, Int.reduceMul, Int.reduceNeg, Int.reduceEq, Int.reduceNe, reduceIte]
        rw [if_pos (by omega)]
      rw [X45003 hA rfl, E45003_0]
      simp (disch := first | assumption | omega | decide | exact okF_i | exact okF_r | exact okF_n | exact okF_j | rfl) only [jc_ref, rI_int, rR_ref, rR_null, rJ_long, ckR_ref, ckR_null, ckr_ref, ckr_null, ckW_int, ckW_ref, ckW_null, cI_ok, cR_ok, cR_null, cV_ok, cJ_ok, qH_eq, qD_in, aG_ref, aS_ref, aL_ref, pF_ref, cK_ref, cK_null, zI_lit, zJ_lit, zI_add, zI_sub, zI_mul, zI_neg, zI_eq, zI_lt, zI_le, Int.reduceLT, Int.reduceLE, Int.reduceAdd, Int.reduceSub, Int.reduceMul, Int.reduceNeg, Int.reduceEq, Int.reduceNe, reduceIte, e5', nA_in, zI_clamp, Int.sub_zero, Int.toNat_natCast, ep, aLc_in, e2', e3']
      rw [ehB]
    simp (disch := first | assumption | omega | decide | exact okF_i | exact okF_r | exact okF_n | exact okF_j | rfl) only [jc_ref, rI_int, rR_ref, rR_null, rJ_long, ckR_ref, ckR_null, ckr_ref, ckr_null, ckW_int, ckW_ref, ckW_null, cI_ok, cR_ok, cR_null, cV_ok, cJ_ok, qH_eq, qD_in, aG_ref, aS_ref, aL_ref, pF_ref, cK_ref, cK_null, e7]
  have g1 : M (d + 3) 48006 [.ref a] (jpush h (50, 4, nSB)) = some (.inl (some (.ref e)), jpush h (50, 4, nSB)) := by
    rw [X48006 _ (jrecv_in p1 rfl), E48006_0]
    simp (disch := first | assumption | omega | decide | exact okF_i | exact okF_r | exact okF_n | exact okF_j | rfl) only [jc_ref, rI_int, rR_ref, rR_null, rJ_long, ckR_ref, ckR_null, ckr_ref, ckr_null, ckW_int, ckW_ref, ckW_null, cI_ok, cR_ok, cR_null, cV_ok, cJ_ok, qH_eq, qD_in, aG_ref, aS_ref, aL_ref, pF_ref, cK_ref, cK_null, zI_lit, zJ_lit, zI_add, zI_sub, zI_mul, zI_neg, zI_eq, zI_lt, zI_le, Int.reduceLT, Int.reduceLE, Int.reduceAdd, Int.reduceSub, Int.reduceMul, Int.reduceNeg, Int.reduceEq, Int.reduceNe, reduceIte, jf_in, pFc_in, aGc_V, aLc_in, cKc_in, nA_in, jm_s1, jm_s2, jm_p1, jm_p2, ckR_is, ckr_is, rR_is, ckW_is, cR_is, obi, okFb0, oSB_0, oSB_1, oSB_3, oSBs_0, oSBs_1, oSBs_3, nSBs_0, nSBs_1, sar0, shl0, p1]
  have g2 : M (d + 3) 49006 [.ref a] (jpush h (50, 4, nSB)) = some (.inl (some (.int (zI b.length))), jpush h (50, 4, nSB)) := by
    rw [X49006 _ (jrecv_in p1 rfl), E49006_0, X48010 _ (jrecv_in p1 rfl), E48010_0]
    simp (disch := first | assumption | omega | decide | exact okF_i | exact okF_r | exact okF_n | exact okF_j | rfl) only [jc_ref, rI_int, rR_ref, rR_null, rJ_long, ckR_ref, ckR_null, ckr_ref, ckr_null, ckW_int, ckW_ref, ckW_null, cI_ok, cR_ok, cR_null, cV_ok, cJ_ok, qH_eq, qD_in, aG_ref, aS_ref, aL_ref, pF_ref, cK_ref, cK_null, zI_lit, zJ_lit, zI_add, zI_sub, zI_mul, zI_neg, zI_eq, zI_lt, zI_le, Int.reduceLT, Int.reduceLE, Int.reduceAdd, Int.reduceSub, Int.reduceMul, Int.reduceNeg, Int.reduceEq, Int.reduceNe, reduceIte, jf_in, pFc_in, aGc_V, aLc_in, cKc_in, nA_in, jm_s1, jm_s2, jm_p1, jm_p2, ckR_is, ckr_is, rR_is, ckW_is, cR_is, obi, okFb0, oSB_0, oSB_1, oSB_3, oSBs_0, oSBs_1, oSBs_3, nSBs_0, nSBs_1, sar0, shl0, p1]
  have g3 := sb_lat (d := d + 2) p1
  have fin : jset hB h.1 (50, 4, oST (h.1 + 1)) = jpush (jpush h (50, 4, oST (h.1 + 1))) (1010, b.length, fun k => .int (zI (b.getD k 0))) := by
    rw [ehB, nA, ehA]
    exact two_new rfl rfl
  have g4 : M (d + 4) 50901 [.ref h.1, .ref a, .null] (jpush h (50, 4, nSB)) = some (.inl none, jset hB h.1 (50, 4, oST (h.1 + 1))) := by
    rw [X50901 _ rfl rfl (jrecv_in p3 rfl), E50901_0]
    simp (disch := first | assumption | omega | decide | exact okF_i | exact okF_r | exact okF_n | exact okF_j | rfl) only [jc_ref, rI_int, rR_ref, rR_null, rJ_long, ckR_ref, ckR_null, ckr_ref, ckr_null, ckW_int, ckW_ref, ckW_null, cI_ok, cR_ok, cR_null, cV_ok, cJ_ok, qH_eq, qD_in, aG_ref, aS_ref, aL_ref, pF_ref, cK_ref, cK_null, zI_lit, zJ_lit, zI_add, zI_sub, zI_mul, zI_neg, zI_eq, zI_lt, zI_le, Int.reduceLT, Int.reduceLE, Int.reduceAdd, Int.reduceSub, Int.reduceMul, Int.reduceNeg, Int.reduceEq, Int.reduceNe, reduceIte, jf_in, pFc_in, aGc_V, aLc_in, cKc_in, nA_in, jm_s1, jm_s2, jm_p1, jm_p2, ckR_is, ckr_is, rR_is, ckW_is, cR_is, obi, okFb0, oSB_0, oSB_1, oSB_3, oSBs_0, oSBs_1, oSBs_3, nSBs_0, nSBs_1, sar0, shl0, g1, g2, g3, p3, ← ehA, hcp, f4]
    rw [nA]
    rfl
  have g5 : M (d + 5) 50900 [.ref h.1, .ref a] (jpush h (50, 4, nSB)) = some (.inl none, jset hB h.1 (50, 4, oST (h.1 + 1))) := by
    rw [X50900 _ rfl (jrecv_in p3 rfl), E50900_0]
    simp (disch := first | assumption | omega | decide | exact okF_i | exact okF_r | exact okF_n | exact okF_j | rfl) only [jc_ref, rI_int, rR_ref, rR_null, rJ_long, ckR_ref, ckR_null, ckr_ref, ckr_null, ckW_int, ckW_ref, ckW_null, cI_ok, cR_ok, cR_null, cV_ok, cJ_ok, qH_eq, qD_in, aG_ref, aS_ref, aL_ref, pF_ref, cK_ref, cK_null, g4]
  have g5' : M (d + 5) 50900 [.ref h.1, .ref a] (jpush h (50, 4, jL [.null, .int 0, .int 0, .int 0])) = some (.inl none, jset hB h.1 (50, 4, oST (h.1 + 1))) := g5
  rw [X49007 h (jrecv_in h1 rfl), E49007_0]
  simp (disch := first | assumption | omega | decide | exact okF_i | exact okF_r | exact okF_n | exact okF_j | rfl) only [jc_ref, rI_int, rR_ref, rR_null, rJ_long, ckR_ref, ckR_null, ckr_ref, ckr_null, ckW_int, ckW_ref, ckW_null, cI_ok, cR_ok, cR_null, cV_ok, cJ_ok, qH_eq, qD_in, aG_ref, aS_ref, aL_ref, pF_ref, cK_ref, cK_null, g5']
  rw [fin]
end
