/-! StringBuilder on its cells -/
def oSB (e : Nat) (ml : Int32) (n : Int) : Nat → Value := jL [.ref e, .int (zI 0), .int ml, .int (zI n)]
def nSB : Nat → Value := jL [.null, .int 0, .int 0, .int 0]
section
variable {e q : Nat} {ml : Int32} {u z : Int}
theorem oSB_0 : oSB e ml u 0 = .ref e := rfl
theorem oSB_1 : oSB e ml u 1 = .int (zI 0) := rfl
theorem oSB_3 : oSB e ml u 3 = .int (zI u) := rfl
theorem oSBs_0 : ju (oSB e ml u) 0 (.ref q) = oSB q ml u := (ju_jL (Nat.le_of_ble_eq_true rfl)).trans rfl
theorem oSBs_1 : ju (oSB e ml u) 1 (.int (zI 0)) = oSB e ml u := (ju_jL (Nat.le_of_ble_eq_true rfl)).trans rfl
theorem oSBs_3 : ju (oSB e ml u) 3 (.int (zI z)) = oSB e ml z := (ju_jL (Nat.le_of_ble_eq_true rfl)).trans rfl
theorem nSBs_0 : ju nSB 0 (.ref q) = oSB q (zI 0) 0 := (ju_jL (Nat.le_of_ble_eq_true rfl)).trans rfl
theorem nSBs_1 : ju nSB 1 (.int (zI 0)) = nSB := (ju_jL (Nat.le_of_ble_eq_true rfl)).trans rfl
theorem okFb0 : okF 4 (.int (zI 0)) = true := by decide
end
-- jc_ref, rI_int, rR_ref, rR_null, rJ_long, ckR_ref, ckR_null, ckr_ref, ckr_null, ckW_int, ckW_ref, ckW_null, cI_ok, cR_ok, cR_null, cV_ok, cJ_ok, qH_eq, qD_in, aG_ref, aS_ref, aL_ref, pF_ref, cK_ref, cK_null, zI_lit, zJ_lit, zI_add, zI_sub, zI_mul, zI_neg, zI_eq, zI_lt, zI_le, Int.reduceLT, Int.reduceLE, Int.reduceAdd, Int.reduceSub, Int.reduceMul, Int.reduceNeg, Int.reduceEq, Int.reduceNe, reduceIte, jf_in, pFc_in, aGc_V, aLc_in, cKc_in, nA_in, jm_s1, jm_s2, jm_p1, jm_p2, ckR_is, ckr_is, rR_is, ckW_is, cR_is, obi, okFb0, oSB_0, oSB_1, oSB_3, oSBs_0, oSBs_1, oSBs_3, nSBs_0, nSBs_1, sar0, shl0 = jc_ref, rI_int, rR_ref, rR_null, rJ_long, ckR_ref, ckR_null, ckr_ref, ckr_null, ckW_int, ckW_ref, ckW_null, cI_ok, cR_ok, cR_null, cV_ok, cJ_ok, qH_eq, qD_in, aG_ref, aS_ref, aL_ref, pF_ref, cK_ref, cK_null, zI_lit, zJ_lit, zI_add, zI_sub, zI_mul, zI_neg, zI_eq, zI_lt, zI_le, Int.reduceLT, Int.reduceLE, Int.reduceAdd, Int.reduceSub, Int.reduceMul, Int.reduceNeg, Int.reduceEq, Int.reduceNe, reduceIte, jf_in, pFc_in, aGc_V, aLc_in, cKc_in, nA_in, jm_s1, jm_s2, jm_p1, jm_p2, ckR_is, ckr_is, rR_is, ckW_is, cR_is, obi, okFb0, oSB_0, oSB_1, oSB_3, oSBs_0, oSBs_1, oSBs_3, nSBs_0, nSBs_1, sar0, shl0
section
variable {β : Type} {d : Nat} {h : AH} {a e q cap n te : Nat} {g : Nat → Value} {ml : Int32} {u i : Int} {b c : List Int}
theorem smB {z : Int} (h0 : 0 ≤ z) (h1 : z < 128) : (zI z).toInt8.toInt32 = zI z := by
  have k : ∀ k : Fin 128, (zI ((k.val : Nat) : Int)).toInt8.toInt32 = zI ((k.val : Nat) : Int) := by decide +kernel
  have := k ⟨z.toNat, by omega⟩
  rwa [show ((z.toNat : Nat) : Int) = z by omega] at this
theorem aSb_V {κ : AH → Option β} {v : Ph κ} {x : Int32} (hm : jm h e = some (1010, n, g)) (h1 : 0 ≤ i) (h2 : i < (n : Int)) (hn : n < 2147483648) : zqB h (.ref e) (zI i) x κ v = κ (jset h e (1010, n, ju g i.toNat (.int x.toInt8.toInt32))) := by
  show aSb h (.ref e) (zI i) x κ = _
  unfold aSb
  rw [jc_ref, hm]
  show aS h (.ref e) [1010] (zI i) (.int x.toInt8.toInt32) κ = _
  have y : aS h (.ref e) [1010] (zI i) (.int x.toInt8.toInt32) κ = aSc h e (jm h e) [1010] (zI i) (.int x.toInt8.toInt32) κ () := rfl
  rw [y, hm]
  exact aSc_V rfl h1 h2 hn
theorem okB0 {κ : Option β} : okB (zI 0) κ = κ := by unfold okB; rw [if_pos (by decide)]
theorem s_coder (s : StrAt h q c) : M (d + 1) 50005 [.ref q] h = some (.inl (some (.int (zI 0))), h) := by
  obtain ⟨t, e, te, f, g, ⟨x1, x2, x3, x4⟩, -⟩ := s
  have ht : [50, 150].elem t = true := by rcases x2 with rfl | rfl <;> rfl
  have x4 : f 1 = .int (zI 0) := x4
  rw [X50005 h (jrecv_in x1 (by rcases x2 with rfl | rfl <;> rfl)), E50005_0, if_neg (by decide)]
  simp only [jc_ref, x1, jf_in ht, x4, rI_int, okB0]
theorem s_len (s : StrAt h q c) : M (d + 2) 50012 [.ref q] h = some (.inl (some (.int (zI c.length))), h) := by
  have e1 := s_coder (d := d) s
  obtain ⟨t, e, te, f, g, ⟨x1, x2, x3, x4⟩, y1, y2, -⟩ := s
  have ht : [50, 150].elem t = true := by rcases x2 with rfl | rfl <;> rfl
  rw [X50012 h (jrecv_in x1 (by rcases x2 with rfl | rfl <;> rfl)), E50012_0]
  simp (disch := first | assumption | omega | decide | exact okF_i | exact okF_r | exact okF_n | exact okF_j | rfl) only [jc_ref, rI_int, rR_ref, rR_null, rJ_long, ckR_ref, ckR_null, ckr_ref, ckr_null, ckW_int, ckW_ref, ckW_null, cI_ok, cR_ok, cR_null, cV_ok, cJ_ok, qH_eq, qD_in, aG_ref, aS_ref, aL_ref, pF_ref, cK_ref, cK_null, zI_lit, zJ_lit, zI_add, zI_sub, zI_mul, zI_neg, zI_eq, zI_lt, zI_le, Int.reduceLT, Int.reduceLE, Int.reduceAdd, Int.reduceSub, Int.reduceMul, Int.reduceNeg, Int.reduceEq, Int.reduceNe, reduceIte, jf_in, pFc_in, aGc_V, aLc_in, cKc_in, nA_in, jm_s1, jm_s2, jm_p1, jm_p2, ckR_is, ckr_is, rR_is, ckW_is, cR_is, obi, okFb0, oSB_0, oSB_1, oSB_3, oSBs_0, oSBs_1, oSBs_3, nSBs_0, nSBs_1, sar0, shl0, x1, jf_in ht, x3, y1, aLb2, e1]
theorem sb_lat (h1 : jm h a = some (49, 4, oSB e ml u)) : M (d + 1) 48009 [.ref a] h = some (.inl (some (.int (zI 1))), h) := by
  rw [X48009 h (jrecv_in h1 rfl), E48009_0, if_neg (by decide)]
  simp (disch := first | assumption | omega | decide | exact okF_i | exact okF_r | exact okF_n | exact okF_j | rfl) only [jc_ref, rI_int, rR_ref, rR_null, rJ_long, ckR_ref, ckR_null, ckr_ref, ckr_null, ckW_int, ckW_ref, ckW_null, cI_ok, cR_ok, cR_null, cV_ok, cJ_ok, qH_eq, qD_in, aG_ref, aS_ref, aL_ref, pF_ref, cK_ref, cK_null, zI_lit, zJ_lit, zI_add, zI_sub, zI_mul, zI_neg, zI_eq, zI_lt, zI_le, Int.reduceLT, Int.reduceLE, Int.reduceAdd, Int.reduceSub, Int.reduceMul, Int.reduceNeg, Int.reduceEq, Int.reduceNe, reduceIte, jf_in, pFc_in, aGc_V, aLc_in, cKc_in, nA_in, jm_s1, jm_s2, jm_p1, jm_p2, ckR_is, ckr_is, rR_is, ckW_is, cR_is, obi, okFb0, oSB_0, oSB_1, oSB_3, oSBs_0, oSBs_1, oSBs_3, nSBs_0, nSBs_1, sar0, shl0, h1, if_true]
/-- Arrays.copyOf of bytes -/
theorem a_copyB {m : Int} (h2 : jm h e = some (1010, cap, g)) (he : e < h.1) (hc : cap < 200000) (m0 : (cap : Int) < m) (m1 : m < 1000000) : M (d + 2) 45001 [.ref e, .int (zI m)] h = some (.inl (some (.ref h.1)), jset (jpush h (1010, m.toNat, fun _ => .int (zI 0))) h.1 (1010, m.toNat, jcpy g (fun _ => .int (zI 0)) 0 0 cap)) := by
  have ep : jm (jpush h (1010, m.toNat, fun _ => .int (zI 0))) e = some (1010, cap, g) := by rw [jm_p2 (Nat.ne_of_lt he)]; exact h2
  have e2 := m_min (d := d) (h := jpush h (1010, m.toNat, fun _ => .int (zI 0))) (i := cap) (j := m) ⟨by omega, by omega⟩ ⟨by omega, by omega⟩
  have e3 := acp (d := d) (sp := 0) (dp := 0) (k := min (cap : Int) m) ep jm_p1 rfl (by omega) (by omega) (by omega) (by omega) (by omega) (by omega) (by omega)
  have hmin : (min (cap : Int) m).toNat = cap := by omega
  rw [hmin] at e3
  rw [X45001 h rfl, E45001_0]
  simp (disch := first | assumption | omega | decide | exact okF_i | exact okF_r | exact okF_n | exact okF_j | rfl) only [jc_ref, rI_int, rR_ref, rR_null, rJ_long, ckR_ref, ckR_null, ckr_ref, ckr_null, ckW_int, ckW_ref, ckW_null, cI_ok, cR_ok, cR_null, cV_ok, cJ_ok, qH_eq, qD_in, aG_ref, aS_ref, aL_ref, pF_ref, cK_ref, cK_null, zI_lit, zJ_lit, zI_add, zI_sub, zI_mul, zI_neg, zI_eq, zI_lt, zI_le, Int.reduceLT, Int.reduceLE, Int.reduceAdd, Int.reduceSub, Int.reduceMul, Int.reduceNeg, Int.reduceEq, Int.reduceNe, reduceIte, aLc_in, h2]
  rw [if_neg (by omega)]
  simp (disch := first | assumption | omega | decide | exact okF_i | exact okF_r | exact okF_n | exact okF_j | rfl) only [jc_ref, rI_int, rR_ref, rR_null, rJ_long, ckR_ref, ckR_null, ckr_ref, ckr_null, ckW_int, ckW_ref, ckW_null, cI_ok, cR_ok, cR_null, cV_ok, cJ_ok, qH_eq, qD_in, aG_ref, aS_ref, aL_ref, pF_ref, cK_ref, cK_null, zI_lit, zJ_lit, zI_add, zI_sub, zI_mul, zI_neg, zI_eq, zI_lt, zI_le, Int.reduceLT, Int.reduceLE, Int.reduceAdd, Int.reduceSub, Int.reduceMul, Int.reduceNeg, Int.reduceEq, Int.reduceNe, reduceIte, nA_in, zI_clamp, ep, aLc_in, e2, e3]
  rfl
/-- room for so many -/
theorem sb_ens0 (h1 : jm h a = some (49, 4, oSB e ml u)) (h2 : jm h e = some (1010, cap, g)) (hc : cap < 200000) (i0 : 0 ≤ i) (i1 : i ≤ cap) : M (d + 1) 48005 [.ref a, .int (zI i)] h = some (.inl none, h) := by
  rw [X48005 h (jrecv_in h1 rfl), E48005_0]
  simp (disch := first | assumption | omega | decide | exact okF_i | exact okF_r | exact okF_n | exact okF_j | rfl) only [jc_ref, rI_int, rR_ref, rR_null, rJ_long, ckR_ref, ckR_null, ckr_ref, ckr_null, ckW_int, ckW_ref, ckW_null, cI_ok, cR_ok, cR_null, cV_ok, cJ_ok, qH_eq, qD_in, aG_ref, aS_ref, aL_ref, pF_ref, cK_ref, cK_null, zI_lit, zJ_lit, zI_add, zI_sub, zI_mul, zI_neg, zI_eq, zI_lt, zI_le, Int.reduceLT, Int.reduceLE, Int.reduceAdd, Int.reduceSub, Int.reduceMul, Int.reduceNeg, Int.reduceEq, Int.reduceNe, reduceIte, jf_in, pFc_in, aGc_V, aLc_in, cKc_in, nA_in, jm_s1, jm_s2, jm_p1, jm_p2, ckR_is, ckr_is, rR_is, ckW_is, cR_is, obi, okFb0, oSB_0, oSB_1, oSB_3, oSBs_0, oSBs_1, oSBs_3, nSBs_0, nSBs_1, sar0, shl0, h1, h2]
  rw [if_pos (by omega)]
theorem sb_ens1 (h1 : jm h a = some (49, 4, oSB e ml u)) (h2 : jm h e = some (1010, cap, g)) (ha : a < h.1) (he : e < h.1) (hc : cap < 100000) (i0 : (cap : Int) < i) (i1 : i < 300000) : M (d + 4) 48005 [.ref a, .int (zI i)] h = some (.inl none, jset (jset (jpush h (1010, sbCap cap i.toNat, fun _ => .int (zI 0))) h.1 (1010, sbCap cap i.toNat, jcpy g (fun _ => .int (zI 0)) 0 0 cap)) a (49, 4, oSB h.1 ml u)) := by
  have hm : (cap : Int) + max (i - cap) ((cap : Int) + 2) = (sbCap cap i.toNat : Nat) := by
    unfold sbCap
    rw [if_neg (by omega)]
    omega
  have hs : ((2 : Int32) <<< (zI 0 &&& zI 31)) = zI 2 := shl0
  have e1 := m_newLen (d := d) (h := h) (i := cap) (j := i - cap) (k := (cap : Int) + 2) (by omega) (by omega) (by omega) (by omega) (by omega) (by omega)
  rw [hm] at e1
  have b1 : ((sbCap cap i.toNat : Nat) : Int) < 700000 ∧ (cap : Int) < (sbCap cap i.toNat : Nat) := by omega
  have e2 : M (d + 3) 48011 [.ref a, .int (zI i)] h = some (.inl (some (.int (zI (sbCap cap i.toNat : Nat)))), h) := by
    rw [X48011 h (jrecv_in h1 rfl), E48011_0]
    simp (disch := first | assumption | omega | decide | exact okF_i | exact okF_r | exact okF_n | exact okF_j | rfl) only [jc_ref, rI_int, rR_ref, rR_null, rJ_long, ckR_ref, ckR_null, ckr_ref, ckr_null, ckW_int, ckW_ref, ckW_null, cI_ok, cR_ok, cR_null, cV_ok, cJ_ok, qH_eq, qD_in, aG_ref, aS_ref, aL_ref, pF_ref, cK_ref, cK_null, zI_lit, zJ_lit, zI_add, zI_sub, zI_mul, zI_neg, zI_eq, zI_lt, zI_le, Int.reduceLT, Int.reduceLE, Int.reduceAdd, Int.reduceSub, Int.reduceMul, Int.reduceNeg, Int.reduceEq, Int.reduceNe, reduceIte, jf_in, pFc_in, aGc_V, aLc_in, cKc_in, nA_in, jm_s1, jm_s2, jm_p1, jm_p2, ckR_is, ckr_is, rR_is, ckW_is, cR_is, obi, okFb0, oSB_0, oSB_1, oSB_3, oSBs_0, oSBs_1, oSBs_3, nSBs_0, nSBs_1, sar0, shl0, h1, h2, e1]
    rw [if_neg (by omega)]
  have e3 := a_copyB (d := d + 1) (m := (sbCap cap i.toNat : Nat)) h2 he (by omega) b1.2 (by omega)
  simp only [Int.toNat_natCast] at e3
  have e4 : jm (jset (jpush h (1010, sbCap cap i.toNat, fun _ => .int (zI 0))) h.1 (1010, sbCap cap i.toNat, jcpy g (fun _ => .int (zI 0)) 0 0 cap)) a = some (49, 4, oSB e ml u) := by
    rw [jm_s2 (Nat.ne_of_lt ha), jm_p2 (Nat.ne_of_lt ha)]; exact h1
  generalize jset (jpush h (1010, sbCap cap i.toNat, fun _ => .int (zI 0))) h.1 (1010, sbCap cap i.toNat, jcpy g (fun _ => .int (zI 0)) 0 0 cap) = h9 at e3 e4 ⊢
  rw [X48005 h (jrecv_in h1 rfl), E48005_0]
  simp (disch := first | assumption | omega | decide | exact okF_i | exact okF_r | exact okF_n | exact okF_j | rfl) only [jc_ref, rI_int, rR_ref, rR_null, rJ_long, ckR_ref, ckR_null, ckr_ref, ckr_null, ckW_int, ckW_ref, ckW_null, cI_ok, cR_ok, cR_null, cV_ok, cJ_ok, qH_eq, qD_in, aG_ref, aS_ref, aL_ref, pF_ref, cK_ref, cK_null, zI_lit, zJ_lit, zI_add, zI_sub, zI_mul, zI_neg, zI_eq, zI_lt, zI_le, Int.reduceLT, Int.reduceLE, Int.reduceAdd, Int.reduceSub, Int.reduceMul, Int.reduceNeg, Int.reduceEq, Int.reduceNe, reduceIte, jf_in, pFc_in, aGc_V, aLc_in, cKc_in, nA_in, jm_s1, jm_s2, jm_p1, jm_p2, ckR_is, ckr_is, rR_is, ckW_is, cR_is, obi, okFb0, oSB_0, oSB_1, oSB_3, oSBs_0, oSBs_1, oSBs_3, nSBs_0, nSBs_1, sar0, shl0, h1, h2]
  rw [if_neg (by omega)]
  simp (disch := first | assumption | omega | decide | exact okF_i | exact okF_r | exact okF_n | exact okF_j | rfl) only [jc_ref, rI_int, rR_ref, rR_null, rJ_long, ckR_ref, ckR_null, ckr_ref, ckr_null, ckW_int, ckW_ref, ckW_null, cI_ok, cR_ok, cR_null, cV_ok, cJ_ok, qH_eq, qD_in, aG_ref, aS_ref, aL_ref, pF_ref, cK_ref, cK_null, zI_lit, zJ_lit, zI_add, zI_sub, zI_mul, zI_neg, zI_eq, zI_lt, zI_le, Int.reduceLT, Int.reduceLE, Int.reduceAdd, Int.reduceSub, Int.reduceMul, Int.reduceNeg, Int.reduceEq, Int.reduceNe, reduceIte, jf_in, pFc_in, aGc_V, aLc_in, cKc_in, nA_in, jm_s1, jm_s2, jm_p1, jm_p2, ckR_is, ckr_is, rR_is, ckW_is, cR_is, obi, okFb0, oSB_0, oSB_1, oSB_3, oSBs_0, oSBs_1, oSBs_3, nSBs_0, nSBs_1, sar0, shl0, h1, e2, e3, e4]
theorem sb_new (h1 : jm h a = some (49, 4, nSB)) (ha : a < h.1) : M (d + 3) 49900 [.ref a] h = some (.inl none, jset (jpush h (1010, 16, fun _ => .int (zI 0))) a (49, 4, oSB h.1 (zI 0) 0)) := by
  have e2 : jm (jpush h (1010, 16, fun _ => .int (zI 0))) a = some (49, 4, nSB) := by rw [jm_p2 (Nat.ne_of_lt ha)]; exact h1
  have e1 : M (d + 2) 48900 [.ref a, .int (zI 16)] h = some (.inl none, jset (jpush h (1010, 16, fun _ => .int (zI 0))) a (49, 4, oSB h.1 (zI 0) 0)) := by
    rw [X48900 h (jrecv_in h1 rfl), E48900_0]
    simp (disch := first | assumption | omega | decide | exact okF_i | exact okF_r | exact okF_n | exact okF_j | rfl) only [jc_ref, rI_int, rR_ref, rR_null, rJ_long, ckR_ref, ckR_null, ckr_ref, ckr_null, ckW_int, ckW_ref, ckW_null, cI_ok, cR_ok, cR_null, cV_ok, cJ_ok, qH_eq, qD_in, aG_ref, aS_ref, aL_ref, pF_ref, cK_ref, cK_null, obi]
    rw [if_neg (by decide)]
    simp (disch := first | assumption | omega | decide | exact okF_i | exact okF_r | exact okF_n | exact okF_j | rfl) only [jc_ref, rI_int, rR_ref, rR_null, rJ_long, ckR_ref, ckR_null, ckr_ref, ckr_null, ckW_int, ckW_ref, ckW_null, cI_ok, cR_ok, cR_null, cV_ok, cJ_ok, qH_eq, qD_in, aG_ref, aS_ref, aL_ref, pF_ref, cK_ref, cK_null, zI_lit, zJ_lit, zI_add, zI_sub, zI_mul, zI_neg, zI_eq, zI_lt, zI_le, Int.reduceLT, Int.reduceLE, Int.reduceAdd, Int.reduceSub, Int.reduceMul, Int.reduceNeg, Int.reduceEq, Int.reduceNe, reduceIte, jf_in, pFc_in, aGc_V, aLc_in, cKc_in, nA_in, jm_s1, jm_s2, jm_p1, jm_p2, ckR_is, ckr_is, rR_is, ckW_is, cR_is, obi, okFb0, oSB_0, oSB_1, oSB_3, oSBs_0, oSBs_1, oSBs_3, nSBs_0, nSBs_1, sar0, shl0, zI_clamp, show (Int.toNat 16) = 16 from rfl, e2, jset_jset]
  rw [X49900 h (jrecv_in h1 rfl), E49900_0]
  simp (disch := first | assumption | omega | decide | exact okF_i | exact okF_r | exact okF_n | exact okF_j | rfl) only [jc_ref, rI_int, rR_ref, rR_null, rJ_long, ckR_ref, ckR_null, ckr_ref, ckr_null, ckW_int, ckW_ref, ckW_null, cI_ok, cR_ok, cR_null, cV_ok, cJ_ok, qH_eq, qD_in, aG_ref, aS_ref, aL_ref, pF_ref, cK_ref, cK_null, zI_lit, e1]
/-- what is put in -/
def putB (g : Nat → Value) (n : Nat) (c : List Int) : Nat → Value := fun k => if n ≤ k ∧ k < n + c.length then .int (zI (c.getD (k - n) 0)) else g k
theorem sb_put {n : Nat} (s : StrAt h q c) (h1 : jm h a = some (49, 4, oSB e ml u)) (h2 : jm h e = some (1010, cap, g)) (hc : cap < 1000000) (hl : n + c.length ≤ cap) : M (d + 3) 48012 [.ref a, .int (zI n), .ref q] h = some (.inl none, jset h e (1010, cap, putB g n c)) := by
  have e1 := s_coder (d := d) s
  obtain ⟨t, eb, te, f, gb, ⟨x1, x2, x3, x4⟩, y1, y2, y3, y4, y5⟩ := s
  have ht : [50, 150].elem t = true := by rcases x2 with rfl | rfl <;> rfl
  have e2 := acp (d := d) (sp := 0) (dp := n) (k := c.length) y1 h2 (by rcases y2 with rfl | rfl <;> rfl) (by omega) (by omega) (by omega) (by omega) (by omega) (by omega) (by omega)
  have e3 : jcpy gb g (0 : Int).toNat ((n : Nat) : Int).toNat ((c.length : Nat) : Int).toNat = putB g n c := by
    funext k
    unfold jcpy putB
    simp only [Int.toNat_natCast, show (0 : Int).toNat = 0 from rfl]
    by_cases hk : n ≤ k ∧ k < n + c.length
    · rw [if_pos hk, if_pos hk, Nat.zero_add, y3 _ (by omega)]
    · rw [if_neg hk, if_neg hk]
  rw [e3] at e2
  have e4 : M (d + 2) 50009 [.ref q, .ref e, .int (zI n), .int (zI 0)] h = some (.inl none, jset h e (1010, cap, putB g n c)) := by
    rw [X50009 h rfl (jrecv_in x1 (by rcases x2 with rfl | rfl <;> rfl)), E50009_0]
    simp (disch := first | assumption | omega | decide | exact okF_i | exact okF_r | exact okF_n | exact okF_j | rfl) only [jc_ref, rI_int, rR_ref, rR_null, rJ_long, ckR_ref, ckR_null, ckr_ref, ckr_null, ckW_int, ckW_ref, ckW_null, cI_ok, cR_ok, cR_null, cV_ok, cJ_ok, qH_eq, qD_in, aG_ref, aS_ref, aL_ref, pF_ref, cK_ref, cK_null, zI_lit, zJ_lit, zI_add, zI_sub, zI_mul, zI_neg, zI_eq, zI_lt, zI_le, Int.reduceLT, Int.reduceLE, Int.reduceAdd, Int.reduceSub, Int.reduceMul, Int.reduceNeg, Int.reduceEq, Int.reduceNe, reduceIte, jf_in, pFc_in, aGc_V, aLc_in, cKc_in, nA_in, jm_s1, jm_s2, jm_p1, jm_p2, ckR_is, ckr_is, rR_is, ckW_is, cR_is, obi, okFb0, oSB_0, oSB_1, oSB_3, oSBs_0, oSBs_1, oSBs_3, nSBs_0, nSBs_1, sar0, shl0, e1, if_true, x1, jf_in ht, x3, y1, aLb2, e2]
  have e5 : M (d + 2) 48008 [.ref a, .ref q] h = some (.inl none, h) := by
    rw [X48008 h rfl (jrecv_in h1 rfl), E48008_0, if_neg (by decide)]
    simp (disch := first | assumption | omega | decide | exact okF_i | exact okF_r | exact okF_n | exact okF_j | rfl) only [jc_ref, rI_int, rR_ref, rR_null, rJ_long, ckR_ref, ckR_null, ckr_ref, ckr_null, ckW_int, ckW_ref, ckW_null, cI_ok, cR_ok, cR_null, cV_ok, cJ_ok, qH_eq, qD_in, aG_ref, aS_ref, aL_ref, pF_ref, cK_ref, cK_null, zI_lit, zJ_lit, zI_add, zI_sub, zI_mul, zI_neg, zI_eq, zI_lt, zI_le, Int.reduceLT, Int.reduceLE, Int.reduceAdd, Int.reduceSub, Int.reduceMul, Int.reduceNeg, Int.reduceEq, Int.reduceNe, reduceIte, jf_in, pFc_in, aGc_V, aLc_in, cKc_in, nA_in, jm_s1, jm_s2, jm_p1, jm_p2, ckR_is, ckr_is, rR_is, ckW_is, cR_is, obi, okFb0, oSB_0, oSB_1, oSB_3, oSBs_0, oSBs_1, oSBs_3, nSBs_0, nSBs_1, sar0, shl0, h1, e1, if_true]
  rw [X48012 h rfl (jrecv_in h1 rfl), E48012_0]
  simp (disch := first | assumption | omega | decide | exact okF_i | exact okF_r | exact okF_n | exact okF_j | rfl) only [jc_ref, rI_int, rR_ref, rR_null, rJ_long, ckR_ref, ckR_null, ckr_ref, ckr_null, ckW_int, ckW_ref, ckW_null, cI_ok, cR_ok, cR_null, cV_ok, cJ_ok, qH_eq, qD_in, aG_ref, aS_ref, aL_ref, pF_ref, cK_ref, cK_null, zI_lit, zJ_lit, zI_add, zI_sub, zI_mul, zI_neg, zI_eq, zI_lt, zI_le, Int.reduceLT, Int.reduceLE, Int.reduceAdd, Int.reduceSub, Int.reduceMul, Int.reduceNeg, Int.reduceEq, Int.reduceNe, reduceIte, jf_in, pFc_in, aGc_V, aLc_in, cKc_in, nA_in, jm_s1, jm_s2, jm_p1, jm_p2, ckR_is, ckr_is, rR_is, ckW_is, cR_is, obi, okFb0, oSB_0, oSB_1, oSB_3, oSBs_0, oSBs_1, oSBs_3, nSBs_0, nSBs_1, sar0, shl0, e5, h1, e4]
theorem sb_appS {h9 : AH} {e9 : Nat} (s : StrAt h q c) (h1 : jm h a = some (49, 4, oSB e ml u)) (u0 : 0 ≤ u) (hx : M (d + 4) 48005 [.ref a, .int (zI (u + c.length))] h = some (.inl none, h9)) (s9 : StrAt h9 q c) (g1 : jm h9 a = some (49, 4, oSB e9 ml u)) (g2 : jm h9 e9 = some (1010, cap, g)) (hl : u + c.length ≤ cap) (hc : cap < 1000000) :
    M (d + 6) 49001 [.ref a, .ref q] h = some (.inl (some (.ref a)), jset (jset h9 e9 (1010, cap, putB g u.toNat c)) a (49, 4, oSB e9 ml (u + c.length))) := by
  have nae : a ≠ e9 := by
    rintro rfl
    rw [g1] at g2; cases g2
  have e1 := s_len (d := d + 2) s
  have e2 := sb_put (d := d + 1) (n := u.toNat) s9 g1 g2 hc (by omega)
  rw [show ((u.toNat : Nat) : Int) = u by omega] at e2
  have hq : ¬ ((.ref q : Value) = .null) := fun z => by cases z
  have e3 : M (d + 5) 48002 [.ref a, .ref q] h = some (.inl (some (.ref a)), jset (jset h9 e9 (1010, cap, putB g u.toNat c)) a (49, 4, oSB e9 ml (u + c.length))) := by
    rw [X48002 h rfl (jrecv_in h1 rfl), E48002_0]
    simp (disch := first | assumption | omega | decide | exact okF_i | exact okF_r | exact okF_n | exact okF_j | rfl) only [jc_ref, rI_int, rR_ref, rR_null, rJ_long, ckR_ref, ckR_null, ckr_ref, ckr_null, ckW_int, ckW_ref, ckW_null, cI_ok, cR_ok, cR_null, cV_ok, cJ_ok, qH_eq, qD_in, aG_ref, aS_ref, aL_ref, pF_ref, cK_ref, cK_null, if_neg hq]
    simp (disch := first | assumption | omega | decide | exact okF_i | exact okF_r | exact okF_n | exact okF_j | rfl) only [jc_ref, rI_int, rR_ref, rR_null, rJ_long, ckR_ref, ckR_null, ckr_ref, ckr_null, ckW_int, ckW_ref, ckW_null, cI_ok, cR_ok, cR_null, cV_ok, cJ_ok, qH_eq, qD_in, aG_ref, aS_ref, aL_ref, pF_ref, cK_ref, cK_null, zI_lit, zJ_lit, zI_add, zI_sub, zI_mul, zI_neg, zI_eq, zI_lt, zI_le, Int.reduceLT, Int.reduceLE, Int.reduceAdd, Int.reduceSub, Int.reduceMul, Int.reduceNeg, Int.reduceEq, Int.reduceNe, reduceIte, jf_in, pFc_in, aGc_V, aLc_in, cKc_in, nA_in, jm_s1, jm_s2, jm_p1, jm_p2, ckR_is, ckr_is, rR_is, ckW_is, cR_is, obi, okFb0, oSB_0, oSB_1, oSB_3, oSBs_0, oSBs_1, oSBs_3, nSBs_0, nSBs_1, sar0, shl0, e1, h1, hx, g1, e2, jm_s2]
  rw [X49001 h rfl (jrecv_in h1 rfl), E49001_0]
  simp (disch := first | assumption | omega | decide | exact okF_i | exact okF_r | exact okF_n | exact okF_j | rfl) only [jc_ref, rI_int, rR_ref, rR_null, rJ_long, ckR_ref, ckR_null, ckr_ref, ckr_null, ckW_int, ckW_ref, ckW_null, cI_ok, cR_ok, cR_null, cV_ok, cJ_ok, qH_eq, qD_in, aG_ref, aS_ref, aL_ref, pF_ref, cK_ref, cK_null, zI_lit, zJ_lit, zI_add, zI_sub, zI_mul, zI_neg, zI_eq, zI_lt, zI_le, Int.reduceLT, Int.reduceLE, Int.reduceAdd, Int.reduceSub, Int.reduceMul, Int.reduceNeg, Int.reduceEq, Int.reduceNe, reduceIte, jf_in, pFc_in, aGc_V, aLc_in, cKc_in, nA_in, jm_s1, jm_s2, jm_p1, jm_p2, ckR_is, ckr_is, rR_is, ckW_is, cR_is, obi, okFb0, oSB_0, oSB_1, oSB_3, oSBs_0, oSBs_1, oSBs_3, nSBs_0, nSBs_1, sar0, shl0, e3]
theorem sb_newS (s : StrAt h q c) (h1 : jm h a = some (49, 4, nSB)) (ha : a < h.1) (hq : ∀ c2 : Cl, StrAt (jset (jpush (jset h a (49, 4, nSB)) (1010, c.length + 16, fun _ => .int (zI 0))) a c2) q c) (hs2 : StrAt (jset h a (49, 4, nSB)) q c) (hl : c.length < 100000) :
    M (d + 9) 49901 [.ref a, .ref q] h = some (.inl none, jset (jset (jset (jpush (jset h a (49, 4, nSB)) (1010, c.length + 16, fun _ => .int (zI 0))) a (49, 4, oSB h.1 (zI 0) 0)) h.1 (1010, c.length + 16, putB (fun _ => .int (zI 0)) 0 c)) a (49, 4, oSB h.1 (zI 0) c.length)) := by
  have nh : a ≠ h.1 := Nat.ne_of_lt ha
  have e1 := s_len (d := d + 5) s
  have e1' := s_coder (d := d + 6) s
  have e2 : jm (jpush (jset h a (49, 4, nSB)) (1010, c.length + 16, fun _ => .int (zI 0))) a = some (49, 4, nSB) := (jm_p2 (h := jset h a (49, 4, nSB)) nh).trans jm_s1
  have h3 : (jset h a (49, 4, nSB)).1 = h.1 := rfl
  have hcl : ((c.length : Int) + 16).toNat = c.length + 16 := by omega
  have e5 : jm (jset (jpush (jset h a (49, 4, nSB)) (1010, c.length + 16, fun _ => .int (zI 0))) a (49, 4, oSB h.1 (zI 0) 0)) h.1 = some (1010, c.length + 16, fun _ => .int (zI 0)) := (jm_s2 (Ne.symm nh)).trans (jm_p1 (h := jset h a (49, 4, nSB)))
  have x := sb_ens0 (d := d + 3) (i := (0 : Int) + c.length) (h := jset (jpush (jset h a (49, 4, nSB)) (1010, c.length + 16, fun _ => .int (zI 0))) a (49, 4, oSB h.1 (zI 0) 0)) jm_s1 e5 (by omega) (by omega) (by omega)
  have y := sb_appS (d := d) (hq _) jm_s1 (by omega) x (hq _) jm_s1 e5 (by omega) (by omega)
  rw [Int.zero_add] at y
  have z : M (d + 7) 49002 [.ref a, .ref q] (jset (jpush (jset h a (49, 4, nSB)) (1010, c.length + 16, fun _ => .int (zI 0))) a (49, 4, oSB h.1 (zI 0) 0)) = some (.inl (some (.ref a)), jset (jset (jset (jpush (jset h a (49, 4, nSB)) (1010, c.length + 16, fun _ => .int (zI 0))) a (49, 4, oSB h.1 (zI 0) 0)) h.1 (1010, c.length + 16, putB (fun _ => .int (zI 0)) 0 c)) a (49, 4, oSB h.1 (zI 0) c.length)) := by
    rw [X49002 _ rfl (jrecv_in (jm_s1 (h := jpush (jset h a (49, 4, nSB)) (1010, c.length + 16, fun _ => .int (zI 0))) (a := a) (c := (49, 4, oSB h.1 (zI 0) 0))) rfl), E49002_0, y]
    simp (disch := first | assumption | omega | decide | exact okF_i | exact okF_r | exact okF_n | exact okF_j | rfl) only [jc_ref, rI_int, rR_ref, rR_null, rJ_long, ckR_ref, ckR_null, ckr_ref, ckr_null, ckW_int, ckW_ref, ckW_null, cI_ok, cR_ok, cR_null, cV_ok, cJ_ok, qH_eq, qD_in, aG_ref, aS_ref, aL_ref, pF_ref, cK_ref, cK_null, zI_lit, zJ_lit, zI_add, zI_sub, zI_mul, zI_neg, zI_eq, zI_lt, zI_le, Int.reduceLT, Int.reduceLE, Int.reduceAdd, Int.reduceSub, Int.reduceMul, Int.reduceNeg, Int.reduceEq, Int.reduceNe, reduceIte, jf_in, pFc_in, aGc_V, aLc_in, cKc_in, nA_in, jm_s1, jm_s2, jm_p1, jm_p2, ckR_is, ckr_is, rR_is, ckW_is, cR_is, obi, okFb0, oSB_0, oSB_1, oSB_3, oSBs_0, oSBs_1, oSBs_3, nSBs_0, nSBs_1, sar0, shl0]
    rfl
  have w : M (d + 8) 48901 [.ref a, .ref q] h = some (.inl none, jset (jset (jset (jpush (jset h a (49, 4, nSB)) (1010, c.length + 16, fun _ => .int (zI 0))) a (49, 4, oSB h.1 (zI 0) 0)) h.1 (1010, c.length + 16, putB (fun _ => .int (zI 0)) 0 c)) a (49, 4, oSB h.1 (zI 0) c.length)) := by
    rw [X48901 h rfl (jrecv_in h1 rfl), E48901_0]
    simp (disch := first | assumption | omega | decide | exact okF_i | exact okF_r | exact okF_n | exact okF_j | rfl) only [jc_ref, rI_int, rR_ref, rR_null, rJ_long, ckR_ref, ckR_null, ckr_ref, ckr_null, ckW_int, ckW_ref, ckW_null, cI_ok, cR_ok, cR_null, cV_ok, cJ_ok, qH_eq, qD_in, aG_ref, aS_ref, aL_ref, pF_ref, cK_ref, cK_null, zI_lit, zJ_lit, zI_add, zI_sub, zI_mul, zI_neg, zI_eq, zI_lt, zI_le, Int.reduceLT, Int.reduceLE, Int.reduceAdd, Int.reduceSub, Int.reduceMul, Int.reduceNeg, Int.reduceEq, Int.reduceNe, reduceIte, obi, e1]
    rw [if_neg (by omega), E48901_24]
    simp (disch := first | assumption | omega | decide | exact okF_i | exact okF_r | exact okF_n | exact okF_j | rfl) only [jc_ref, rI_int, rR_ref, rR_null, rJ_long, ckR_ref, ckR_null, ckr_ref, ckr_null, ckW_int, ckW_ref, ckW_null, cI_ok, cR_ok, cR_null, cV_ok, cJ_ok, qH_eq, qD_in, aG_ref, aS_ref, aL_ref, pF_ref, cK_ref, cK_null, zI_lit, zJ_lit, zI_add, zI_sub, zI_mul, zI_neg, zI_eq, zI_lt, zI_le, Int.reduceLT, Int.reduceLE, Int.reduceAdd, Int.reduceSub, Int.reduceMul, Int.reduceNeg, Int.reduceEq, Int.reduceNe, reduceIte, jf_in, pFc_in, aGc_V, aLc_in, cKc_in, nA_in, jm_s1, jm_s2, jm_p1, jm_p2, ckR_is, ckr_is, rR_is, ckW_is, cR_is, obi, okFb0, oSB_0, oSB_1, oSB_3, oSBs_0, oSBs_1, oSBs_3, nSBs_0, nSBs_1, sar0, shl0, e1', h1, if_true, zI_clamp, hcl, e2, h3, z]
  rw [X49901 h rfl (jrecv_in h1 rfl), E49901_0]
  simp (disch := first | assumption | omega | decide | exact okF_i | exact okF_r | exact okF_n | exact okF_j | rfl) only [jc_ref, rI_int, rR_ref, rR_null, rJ_long, ckR_ref, ckR_null, ckr_ref, ckr_null, ckW_int, ckW_ref, ckW_null, cI_ok, cR_ok, cR_null, cV_ok, cJ_ok, qH_eq, qD_in, aG_ref, aS_ref, aL_ref, pF_ref, cK_ref, cK_null, zI_lit, zJ_lit, zI_add, zI_sub, zI_mul, zI_neg, zI_eq, zI_lt, zI_le, Int.reduceLT, Int.reduceLE, Int.reduceAdd, Int.reduceSub, Int.reduceMul, Int.reduceNeg, Int.reduceEq, Int.reduceNe, reduceIte, jf_in, pFc_in, aGc_V, aLc_in, cKc_in, nA_in, jm_s1, jm_s2, jm_p1, jm_p2, ckR_is, ckr_is, rR_is, ckW_is, cR_is, obi, okFb0, oSB_0, oSB_1, oSB_3, oSBs_0, oSBs_1, oSBs_3, nSBs_0, nSBs_1, sar0, shl0, w]
theorem sb_appC {h9 : AH} {e9 : Nat} {z : Int} (h1 : jm h a = some (49, 4, oSB e ml u)) (u0 : 0 ≤ u) (hx : M (d + 4) 48005 [.ref a, .int (zI (u + 1))] h = some (.inl none, h9)) (g1 : jm h9 a = some (49, 4, oSB e9 ml u)) (g2 : jm h9 e9 = some (1010, cap, g)) (hl : u + 1 ≤ cap) (hc : cap < 1000000) (z0 : 0 ≤ z) (z1 : z < 128) :
    M (d + 6) 49000 [.ref a, .int (zI z)] h = some (.inl (some (.ref a)), jset (jset h9 a (49, 4, oSB e9 ml (u + 1))) e9 (1010, cap, ju g u.toNat (.int (zI z)))) := by
  have nea : e9 ≠ a := by
    rintro rfl
    rw [g1] at g2; cases g2
  have e1 := sb_lat (d := d + 3) g1
  have e2 : M (d + 4) 54000 [.int (zI z)] h9 = some (.inl (some (.int (zI 1))), h9) := by
    rw [X54000 h9, E54000_0]
    simp (disch := omega) only [zI_lit, zJ_lit, zI_add, zI_sub, zI_mul, zI_neg, zI_eq, zI_lt, zI_le, Int.reduceLT, Int.reduceLE, Int.reduceAdd, Int.reduceSub, Int.reduceMul, Int.reduceNeg, Int.reduceEq, Int.reduceNe, reduceIte]
    rw [if_neg (by omega)]
  have g3 : jm (jset h9 a (49, 4, oSB e9 ml (u + 1))) e9 = some (1010, cap, g) := by rw [jm_s2 nea]; exact g2
  have e3 := fun (κ : AH → Rz) (v : Ph κ) => aSb_V (κ := κ) (v := v) (x := zI z) g3 u0 (by omega) (by omega)
  have e5 : M (d + 5) 48000 [.ref a, .int (zI z)] h = some (.inl (some (.ref a)), jset (jset h9 a (49, 4, oSB e9 ml (u + 1))) e9 (1010, cap, ju g u.toNat (.int (zI z)))) := by
    rw [X48000 h (jrecv_in h1 rfl), E48000_0]
    simp (disch := first | assumption | omega | decide | exact okF_i | exact okF_r | exact okF_n | exact okF_j | rfl) only [jc_ref, rI_int, rR_ref, rR_null, rJ_long, ckR_ref, ckR_null, ckr_ref, ckr_null, ckW_int, ckW_ref, ckW_null, cI_ok, cR_ok, cR_null, cV_ok, cJ_ok, qH_eq, qD_in, aG_ref, aS_ref, aL_ref, pF_ref, cK_ref, cK_null, zI_lit, zJ_lit, zI_add, zI_sub, zI_mul, zI_neg, zI_eq, zI_lt, zI_le, Int.reduceLT, Int.reduceLE, Int.reduceAdd, Int.reduceSub, Int.reduceMul, Int.reduceNeg, Int.reduceEq, Int.reduceNe, reduceIte, jf_in, pFc_in, aGc_V, aLc_in, cKc_in, nA_in, jm_s1, jm_s2, jm_p1, jm_p2, ckR_is, ckr_is, rR_is, ckW_is, cR_is, obi, okFb0, oSB_0, oSB_1, oSB_3, oSBs_0, oSBs_1, oSBs_3, nSBs_0, nSBs_1, sar0, shl0, h1, hx, e1, e2, smB, g1, e3]
  rw [X49000 h (jrecv_in h1 rfl), E49000_0]
  simp (disch := first | assumption | omega | decide | exact okF_i | exact okF_r | exact okF_n | exact okF_j | rfl) only [jc_ref, rI_int, rR_ref, rR_null, rJ_long, ckR_ref, ckR_null, ckr_ref, ckr_null, ckW_int, ckW_ref, ckW_null, cI_ok, cR_ok, cR_null, cV_ok, cJ_ok, qH_eq, qD_in, aG_ref, aS_ref, aL_ref, pF_ref, cK_ref, cK_null, zI_lit, zJ_lit, zI_add, zI_sub, zI_mul, zI_neg, zI_eq, zI_lt, zI_le, Int.reduceLT, Int.reduceLE, Int.reduceAdd, Int.reduceSub, Int.reduceMul, Int.reduceNeg, Int.reduceEq, Int.reduceNe, reduceIte, jf_in, pFc_in, aGc_V, aLc_in, cKc_in, nA_in, jm_s1, jm_s2, jm_p1, jm_p2, ckR_is, ckr_is, rR_is, ckW_is, cR_is, obi, okFb0, oSB_0, oSB_1, oSB_3, oSBs_0, oSBs_1, oSBs_3, nSBs_0, nSBs_1, sar0, shl0, e5]
end
