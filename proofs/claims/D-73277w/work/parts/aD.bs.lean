/-! BitSet on its cells -/
def oBS (e : Nat) (u : Int) : Nat → Value := jL [.ref e, .int (zI u), .int 0]
def nBS : Nat → Value := jL [.null, .int 0, .int 0]
def mBS (e : Nat) : Nat → Value := jL [.ref e, .int 0, .int 0]
section
variable {e q : Nat} {u z : Int}
theorem oBS_0 : oBS e u 0 = .ref e := rfl
theorem oBS_1 : oBS e u 1 = .int (zI u) := rfl
theorem oBSs_0 : ju (oBS e u) 0 (.ref q) = oBS q u := (ju_jL (Nat.le_of_ble_eq_true rfl)).trans rfl
theorem oBSs_1 : ju (oBS e u) 1 (.int (zI z)) = oBS e z := (ju_jL (Nat.le_of_ble_eq_true rfl)).trans rfl
theorem oBSs_2 : ju (oBS e u) 2 (.int (zI 0)) = oBS e u := (ju_jL (Nat.le_of_ble_eq_true rfl)).trans rfl
theorem nBSs_1 : ju nBS 1 (.int (zI 0)) = nBS := (ju_jL (Nat.le_of_ble_eq_true rfl)).trans rfl
theorem nBSs_2 : ju nBS 2 (.int (zI 0)) = nBS := (ju_jL (Nat.le_of_ble_eq_true rfl)).trans rfl
theorem nBSs_0 : ju nBS 0 (.ref q) = oBS q 0 := (ju_jL (Nat.le_of_ble_eq_true rfl)).trans rfl
theorem okFz0 : okF 3 (.int (zI 0)) = true := by decide
end
-- jc_ref, rI_int, rR_ref, rR_null, rJ_long, ckR_ref, ckR_null, ckr_ref, ckr_null, ckW_int, ckW_ref, ckW_null, cI_ok, cR_ok, cR_null, cV_ok, cJ_ok, qH_eq, qD_in, aG_ref, aS_ref, aL_ref, pF_ref, cK_ref, cK_null, zI_lit, zJ_lit, zI_add, zI_sub, zI_mul, zI_neg, zI_eq, zI_lt, zI_le, Int.reduceLT, Int.reduceLE, Int.reduceAdd, Int.reduceSub, Int.reduceMul, Int.reduceNeg, Int.reduceEq, Int.reduceNe, reduceIte, jf_in, pFc_in, aGc_V, aLc_in, cKc_in, nA_in, jm_s1, jm_s2, jm_p1, jm_p2, ckR_is, ckr_is, rR_is, ckW_is, cR_is, obi, okFz0, oBS_0, oBS_1, oBSs_0, oBSs_1, oBSs_2, nBSs_0, nBSs_1, nBSs_2 = jc_ref, rI_int, rR_ref, rR_null, rJ_long, ckR_ref, ckR_null, ckr_ref, ckr_null, ckW_int, ckW_ref, ckW_null, cI_ok, cR_ok, cR_null, cV_ok, cJ_ok, qH_eq, qD_in, aG_ref, aS_ref, aL_ref, pF_ref, cK_ref, cK_null, zI_lit, zJ_lit, zI_add, zI_sub, zI_mul, zI_neg, zI_eq, zI_lt, zI_le, Int.reduceLT, Int.reduceLE, Int.reduceAdd, Int.reduceSub, Int.reduceMul, Int.reduceNeg, Int.reduceEq, Int.reduceNe, reduceIte, jf_in, pFc_in, aGc_V, aLc_in, cKc_in, nA_in, jm_s1, jm_s2, jm_p1, jm_p2, ckR_is, ckr_is, rR_is, ckW_is, cR_is, obi, okFz0, oBS_0, oBS_1, oBSs_0, oBSs_1, oBSs_2, nBSs_0, nBSs_1, nBSs_2
theorem sar6 {z : Int} (h0 : 0 ≤ z) (h1 : z < 2147483648) : zI z >>> (zI 6 &&& zI 31) = zI (z / 64) := by
  have e : (zI 6 &&& zI 31) = 6 := by decide
  rw [e]
  apply Int32.toInt_inj.mp
  have e2 : (zI z >>> (6 : Int32)).toInt = (zI z).toInt >>> (6 : Nat) := by
    show (zI z >>> (6 : Int32)).toBitVec.toInt = _
    rw [Int32.toBitVec_shiftRight, BitVec.toInt_sshiftRight']
    rfl
  rw [zI_toInt (z := z / 64) (by omega) (by omega), e2, zI_toInt (by omega) (by omega), Int.shiftRight_eq_div_pow]
  rfl
section
variable {d : Nat} {h : AH} {a e wl : Nat} {g : Nat → Value} {s : Nat → Bool} {u i : Int} {β : Type}
theorem aGj2 {κ : Value → Option β} {v : Ph κ} (h1 : 0 ≤ i) (h2 : i < (wl : Int)) (hn : wl < 2147483648) : aGc (some (1030, wl, g)) [1030] (zI i) κ v = κ (g i.toNat) := aGc_V rfl h1 h2 hn
theorem aSj2 {κ : AH → Option β} {v : Ph κ} {x : Int64} (h1 : 0 ≤ i) (h2 : i < (wl : Int)) (hn : wl < 2147483648) : aSc h e (some (1030, wl, g)) [1030] (zI i) (.long x) κ v = κ (jset h e (1030, wl, ju g i.toNat (.long x))) := aSc_V rfl h1 h2 hn
theorem b_inv (h1 : jm h a = some (44, 3, oBS e u)) : M (d + 1) 44001 [.ref a] h = some (.inl none, h) := by
  have c : (1 : Int32) = 0 ↔ False := by decide
  rw [X44001 h (jrecv_in h1 rfl), E44001_0, if_neg (by decide), E44001_37, if_neg (by decide), E44001_70, if_neg (by decide)]
theorem b_wi (i0 : 0 ≤ i) (i1 : i < 2147483648) : M (d + 1) 44009 [.int (zI i)] h = some (.inl (some (.int (zI (i / 64)))), h) := by
  rw [X44009 h, E44009_0]
  simp (disch := omega) only [zI_lit, zJ_lit, zI_add, zI_sub, zI_mul, zI_neg, zI_eq, zI_lt, zI_le, Int.reduceLT, Int.reduceLE, Int.reduceAdd, Int.reduceSub, Int.reduceMul, Int.reduceNeg, Int.reduceEq, Int.reduceNe, reduceIte, sar6]
theorem b_new (h1 : jm h a = some (44, 3, nBS)) (ha : a < h.1) : M (d + 3) 44900 [.ref a] h = some (.inl none, jset (jpush (jset h a (44, 3, nBS)) (1030, 1, fun _ => .long 0)) a (44, 3, oBS h.1 0)) := by
  have h3 : (jset h a (44, 3, nBS)).1 = h.1 := rfl
  have e2 : jm (jpush (jset h a (44, 3, nBS)) (1030, 1, fun _ => .long 0)) a = some (44, 3, nBS) := (jm_p2 (h := jset h a (44, 3, nBS)) (show a ≠ h.1 by omega)).trans jm_s1
  have e3 : M (d + 2) 44006 [.ref a, .int (zI 64)] (jset h a (44, 3, nBS)) = some (.inl none, jset (jpush (jset h a (44, 3, nBS)) (1030, 1, fun _ => .long 0)) a (44, 3, oBS h.1 0)) := by
    have w := b_wi (d := d) (h := jset h a (44, 3, nBS)) (i := 63) (by omega) (by omega)
    rw [X44006 _ (jrecv_in (jm_s1 (h := h) (a := a) (c := (44, 3, nBS))) rfl), E44006_0]
    simp (disch := first | assumption | omega | decide | exact okF_i | exact okF_r | exact okF_n | exact okF_j | rfl) only [jc_ref, rI_int, rR_ref, rR_null, rJ_long, ckR_ref, ckR_null, ckr_ref, ckr_null, ckW_int, ckW_ref, ckW_null, cI_ok, cR_ok, cR_null, cV_ok, cJ_ok, qH_eq, qD_in, aG_ref, aS_ref, aL_ref, pF_ref, cK_ref, cK_null, zI_lit, zJ_lit, zI_add, zI_sub, zI_mul, zI_neg, zI_eq, zI_lt, zI_le, Int.reduceLT, Int.reduceLE, Int.reduceAdd, Int.reduceSub, Int.reduceMul, Int.reduceNeg, Int.reduceEq, Int.reduceNe, reduceIte, jf_in, pFc_in, aGc_V, aLc_in, cKc_in, nA_in, jm_s1, jm_s2, jm_p1, jm_p2, ckR_is, ckr_is, rR_is, ckW_is, cR_is, obi, okFz0, oBS_0, oBS_1, oBSs_0, oBSs_1, oBSs_2, nBSs_0, nBSs_1, nBSs_2, w, show (64 : Int) - 1 = 63 by omega, show (63 : Int) / 64 + 1 = 1 by omega, show (zI 1).toNatClampNeg = 1 by decide, e2, h3]
  rw [X44900 h (jrecv_in h1 rfl), E44900_0]
  simp (disch := first | assumption | omega | decide | exact okF_i | exact okF_r | exact okF_n | exact okF_j | rfl) only [jc_ref, rI_int, rR_ref, rR_null, rJ_long, ckR_ref, ckR_null, ckr_ref, ckr_null, ckW_int, ckW_ref, ckW_null, cI_ok, cR_ok, cR_null, cV_ok, cJ_ok, qH_eq, qD_in, aG_ref, aS_ref, aL_ref, pF_ref, cK_ref, cK_null, zI_lit, zJ_lit, zI_add, zI_sub, zI_mul, zI_neg, zI_eq, zI_lt, zI_le, Int.reduceLT, Int.reduceLE, Int.reduceAdd, Int.reduceSub, Int.reduceMul, Int.reduceNeg, Int.reduceEq, Int.reduceNe, reduceIte, jf_in, pFc_in, aGc_V, aLc_in, cKc_in, nA_in, jm_s1, jm_s2, jm_p1, jm_p2, ckR_is, ckr_is, rR_is, ckW_is, cR_is, obi, okFz0, oBS_0, oBS_1, oBSs_0, oBSs_1, oBSs_2, nBSs_0, nBSs_1, nBSs_2, h1, jset_jset, e3]
theorem b_get (h1 : jm h a = some (44, 3, oBS e u)) (h2 : jm h e = some (1030, wl, g)) (hg : ∀ k, k < wl → g k = .long (wd s k)) (u0 : 0 ≤ u) (hu : u ≤ wl) (hw : wl < 100000) (hs : ∀ k : Nat, 64 * u ≤ k → s k = false) (i0 : 0 ≤ i) (i1 : i < 2147483648) : M (d + 2) 44005 [.ref a, .int (zI i)] h = some (.inl (some (bI (s i.toNat))), h) := by
  have v := b_inv (d := d) h1
  have w := b_wi (d := d) (h := h) i0 i1
  rw [X44005 h (jrecv_in h1 rfl), E44005_0]
  simp (disch := first | assumption | omega | decide | exact okF_i | exact okF_r | exact okF_n | exact okF_j | rfl) only [jc_ref, rI_int, rR_ref, rR_null, rJ_long, ckR_ref, ckR_null, ckr_ref, ckr_null, ckW_int, ckW_ref, ckW_null, cI_ok, cR_ok, cR_null, cV_ok, cJ_ok, qH_eq, qD_in, aG_ref, aS_ref, aL_ref, pF_ref, cK_ref, cK_null, zI_lit, zJ_lit, zI_add, zI_sub, zI_mul, zI_neg, zI_eq, zI_lt, zI_le, Int.reduceLT, Int.reduceLE, Int.reduceAdd, Int.reduceSub, Int.reduceMul, Int.reduceNeg, Int.reduceEq, Int.reduceNe, reduceIte, jf_in, pFc_in, aGc_V, aLc_in, cKc_in, nA_in, jm_s1, jm_s2, jm_p1, jm_p2, ckR_is, ckr_is, rR_is, ckW_is, cR_is, obi, okFz0, oBS_0, oBS_1, oBSs_0, oBSs_1, oBSs_2, nBSs_0, nBSs_1, nBSs_2, v, w, h1]
  rw [if_pos i0]
  by_cases hi : u ≤ i / 64
  · rw [if_pos hi, hs i.toNat (by omega)]; rfl
  · rw [if_neg hi]
    have gk := hg (i / 64).toNat (by omega)
    have ek : (i / 64).toNat = i.toNat / 64 := by omega
    rw [ek] at gk
    simp (disch := first | assumption | omega | decide | exact okF_i | exact okF_r | exact okF_n | exact okF_j | rfl) only [jc_ref, rI_int, rR_ref, rR_null, rJ_long, ckR_ref, ckR_null, ckr_ref, ckr_null, ckW_int, ckW_ref, ckW_null, cI_ok, cR_ok, cR_null, cV_ok, cJ_ok, qH_eq, qD_in, aG_ref, aS_ref, aL_ref, pF_ref, cK_ref, cK_null, zI_lit, zJ_lit, zI_add, zI_sub, zI_mul, zI_neg, zI_eq, zI_lt, zI_le, Int.reduceLT, Int.reduceLE, Int.reduceAdd, Int.reduceSub, Int.reduceMul, Int.reduceNeg, Int.reduceEq, Int.reduceNe, reduceIte, jf_in, pFc_in, aGc_V, aLc_in, cKc_in, nA_in, jm_s1, jm_s2, jm_p1, jm_p2, ckR_is, ckr_is, rR_is, ckW_is, cR_is, obi, okFz0, oBS_0, oBS_1, oBSs_0, oBSs_1, oBSs_2, nBSs_0, nBSs_1, nBSs_2, h1, h2, aGj2, ek, gk]
    have b := bit_get (s := s) i0 i1
    have b2 : (lcm (wd s (i.toNat / 64) &&& (zJ 1 <<< ((zI i).toInt64 &&& zJ 63))) (zJ 0) = zI 0) ↔ (s i.toNat = false) := Iff.of_eq b
    cases hsi : s i.toNat with
    | false =>
      rw [if_pos (b2.mpr hsi)]
      rfl
    | true =>
      rw [if_neg (fun z => by rw [b2.mp z] at hsi; cases hsi)]
      rfl
/-- Arrays.copyOf of longs -/
theorem a_copyJ {m : Int} (h2 : jm h e = some (1030, wl, g)) (he : e < h.1) (hw : wl < 100000) (m0 : (wl : Int) < m) (m1 : m < 1000000) : M (d + 2) 45006 [.ref e, .int (zI m)] h = some (.inl (some (.ref h.1)), jset (jpush h (1030, m.toNat, fun _ => .long 0)) h.1 (1030, m.toNat, jcpy g (fun _ => .long 0) 0 0 wl)) := by
  have ep : jm (jpush h (1030, m.toNat, fun _ => .long 0)) e = some (1030, wl, g) := by rw [jm_p2 (Nat.ne_of_lt he)]; exact h2
  have e2 := m_min (d := d) (h := jpush h (1030, m.toNat, fun _ => .long 0)) (i := wl) (j := m) ⟨by omega, by omega⟩ ⟨by omega, by omega⟩
  have e3 := acp (d := d) (sp := 0) (dp := 0) (k := min (wl : Int) m) ep jm_p1 rfl (by omega) (by omega) (by omega) (by omega) (by omega) (by omega) (by omega)
  have hmin : (min (wl : Int) m).toNat = wl := by omega
  rw [hmin] at e3
  rw [X45006 h rfl, E45006_0]
  simp (disch := first | assumption | omega | decide | exact okF_i | exact okF_r | exact okF_n | exact okF_j | rfl) only [jc_ref, rI_int, rR_ref, rR_null, rJ_long, ckR_ref, ckR_null, ckr_ref, ckr_null, ckW_int, ckW_ref, ckW_null, cI_ok, cR_ok, cR_null, cV_ok, cJ_ok, qH_eq, qD_in, aG_ref, aS_ref, aL_ref, pF_ref, cK_ref, cK_null, zI_lit, zJ_lit, zI_add, zI_sub, zI_mul, zI_neg, zI_eq, zI_lt, zI_le, Int.reduceLT, Int.reduceLE, Int.reduceAdd, Int.reduceSub, Int.reduceMul, Int.reduceNeg, Int.reduceEq, Int.reduceNe, reduceIte, aLc_in, h2]
  rw [if_neg (by omega)]
  have e3' : M (d + 1) 90001 [.ref e, .int (zI 0), .ref h.1, .int (zI 0), .int (zI (min (wl : Int) m))] (jpush h (1030, m.toNat, fun _ => .long (zJ 0))) = some (.inl none, jset (jpush h (1030, m.toNat, fun _ => .long (zJ 0))) h.1 (1030, m.toNat, jcpy g (fun _ => .long (zJ 0)) 0 0 wl)) := e3
  have e2' : M (d + 1) 53001 [.int (zI wl), .int (zI m)] (jpush h (1030, m.toNat, fun _ => .long (zJ 0))) = some (.inl (some (.int (zI (min (wl : Int) m)))), jpush h (1030, m.toNat, fun _ => .long (zJ 0))) := e2
  have ep' : jm (jpush h (1030, m.toNat, fun _ => .long (zJ 0))) e = some (1030, wl, g) := ep
  simp (disch := first | assumption | omega | decide | exact okF_i | exact okF_r | exact okF_n | exact okF_j | rfl) only [jc_ref, rI_int, rR_ref, rR_null, rJ_long, ckR_ref, ckR_null, ckr_ref, ckr_null, ckW_int, ckW_ref, ckW_null, cI_ok, cR_ok, cR_null, cV_ok, cJ_ok, qH_eq, qD_in, aG_ref, aS_ref, aL_ref, pF_ref, cK_ref, cK_null, zI_lit, zJ_lit, zI_add, zI_sub, zI_mul, zI_neg, zI_eq, zI_lt, zI_le, Int.reduceLT, Int.reduceLE, Int.reduceAdd, Int.reduceSub, Int.reduceMul, Int.reduceNeg, Int.reduceEq, Int.reduceNe, reduceIte, nA_in, zI_clamp, ep', aLc_in, e2', e3']
theorem b_ens0 (h1 : jm h a = some (44, 3, oBS e u)) (h2 : jm h e = some (1030, wl, g)) (hw : wl < 100000) (i0 : 0 ≤ i) (i1 : i ≤ wl) : M (d + 1) 44003 [.ref a, .int (zI i)] h = some (.inl none, h) := by
  rw [X44003 h (jrecv_in h1 rfl), E44003_0]
  simp (disch := first | assumption | omega | decide | exact okF_i | exact okF_r | exact okF_n | exact okF_j | rfl) only [jc_ref, rI_int, rR_ref, rR_null, rJ_long, ckR_ref, ckR_null, ckr_ref, ckr_null, ckW_int, ckW_ref, ckW_null, cI_ok, cR_ok, cR_null, cV_ok, cJ_ok, qH_eq, qD_in, aG_ref, aS_ref, aL_ref, pF_ref, cK_ref, cK_null, zI_lit, zJ_lit, zI_add, zI_sub, zI_mul, zI_neg, zI_eq, zI_lt, zI_le, Int.reduceLT, Int.reduceLE, Int.reduceAdd, Int.reduceSub, Int.reduceMul, Int.reduceNeg, Int.reduceEq, Int.reduceNe, reduceIte, jf_in, pFc_in, aGc_V, aLc_in, cKc_in, nA_in, jm_s1, jm_s2, jm_p1, jm_p2, ckR_is, ckr_is, rR_is, ckW_is, cR_is, obi, okFz0, oBS_0, oBS_1, oBSs_0, oBSs_1, oBSs_2, nBSs_0, nBSs_1, nBSs_2, h1, h2]
  rw [if_pos i1]
theorem b_ens1 (h1 : jm h a = some (44, 3, oBS e u)) (h2 : jm h e = some (1030, wl, g)) (he : e < h.1) (ha : a < h.1) (hw : wl < 100000) (i0 : (wl : Int) < i) (i1 : i < 100000) : M (d + 3) 44003 [.ref a, .int (zI i)] h = some (.inl none, jset (jset (jpush h (1030, (max (2 * (wl : Int)) i).toNat, fun _ => .long 0)) h.1 (1030, (max (2 * (wl : Int)) i).toNat, jcpy g (fun _ => .long 0) 0 0 wl)) a (44, 3, oBS h.1 u)) := by
  have e1 := m_max (d := d + 1) (h := h) (i := 2 * (wl : Int)) (j := i) ⟨by omega, by omega⟩ ⟨by omega, by omega⟩
  have e2 := a_copyJ (d := d) (m := max (2 * (wl : Int)) i) h2 he hw (by omega) (by omega)
  have e3 : jm (jset (jpush h (1030, (max (2 * (wl : Int)) i).toNat, fun _ => .long 0)) h.1 (1030, (max (2 * (wl : Int)) i).toNat, jcpy g (fun _ => .long 0) 0 0 wl)) a = some (44, 3, oBS e u) := by
    rw [jm_s2 (Nat.ne_of_lt ha), jm_p2 (Nat.ne_of_lt ha)]; exact h1
  generalize jset (jpush h (1030, (max (2 * (wl : Int)) i).toNat, fun _ => .long 0)) h.1 (1030, (max (2 * (wl : Int)) i).toNat, jcpy g (fun _ => .long 0) 0 0 wl) = h9 at e2 e3 ⊢
  rw [X44003 h (jrecv_in h1 rfl), E44003_0]
  simp (disch := first | assumption | omega | decide | exact okF_i | exact okF_r | exact okF_n | exact okF_j | rfl) only [jc_ref, rI_int, rR_ref, rR_null, rJ_long, ckR_ref, ckR_null, ckr_ref, ckr_null, ckW_int, ckW_ref, ckW_null, cI_ok, cR_ok, cR_null, cV_ok, cJ_ok, qH_eq, qD_in, aG_ref, aS_ref, aL_ref, pF_ref, cK_ref, cK_null, zI_lit, zJ_lit, zI_add, zI_sub, zI_mul, zI_neg, zI_eq, zI_lt, zI_le, Int.reduceLT, Int.reduceLE, Int.reduceAdd, Int.reduceSub, Int.reduceMul, Int.reduceNeg, Int.reduceEq, Int.reduceNe, reduceIte, jf_in, pFc_in, aGc_V, aLc_in, cKc_in, nA_in, jm_s1, jm_s2, jm_p1, jm_p2, ckR_is, ckr_is, rR_is, ckW_is, cR_is, obi, okFz0, oBS_0, oBS_1, oBSs_0, oBSs_1, oBSs_2, nBSs_0, nBSs_1, nBSs_2, h1, h2]
  rw [if_neg (by omega)]
  simp (disch := first | assumption | omega | decide | exact okF_i | exact okF_r | exact okF_n | exact okF_j | rfl) only [jc_ref, rI_int, rR_ref, rR_null, rJ_long, ckR_ref, ckR_null, ckr_ref, ckr_null, ckW_int, ckW_ref, ckW_null, cI_ok, cR_ok, cR_null, cV_ok, cJ_ok, qH_eq, qD_in, aG_ref, aS_ref, aL_ref, pF_ref, cK_ref, cK_null, zI_lit, zJ_lit, zI_add, zI_sub, zI_mul, zI_neg, zI_eq, zI_lt, zI_le, Int.reduceLT, Int.reduceLE, Int.reduceAdd, Int.reduceSub, Int.reduceMul, Int.reduceNeg, Int.reduceEq, Int.reduceNe, reduceIte, jf_in, pFc_in, aGc_V, aLc_in, cKc_in, nA_in, jm_s1, jm_s2, jm_p1, jm_p2, ckR_is, ckr_is, rR_is, ckW_is, cR_is, obi, okFz0, oBS_0, oBS_1, oBSs_0, oBSs_1, oBSs_2, nBSs_0, nBSs_1, nBSs_2, h1, h2, e1, e2, e3, jset_jset]
/-- the words after a bit is set -/
theorem b_set1 {h9 : AH} (h1 : jm h a = some (44, 3, oBS e u)) (hx : M (d + 1) 44004 [.ref a, .int (zI (i / 64))] h = some (.inl none, h9)) {e9 : Nat} {u9 : Int} (g1 : jm h9 a = some (44, 3, oBS e9 u9)) (g2 : jm h9 e9 = some (1030, wl, g)) (gk : g (i.toNat / 64) = .long (wd s (i.toNat / 64))) (hl : i / 64 < wl) (hw : wl < 300000) (i0 : 0 ≤ i) (i1 : i < 2147483648) :
    M (d + 2) 44008 [.ref a, .int (zI i)] h = some (.inl none, jset h9 e9 (1030, wl, ju g (i.toNat / 64) (.long (wd (fun q => decide (q = i.toNat) || s q) (i.toNat / 64))))) := by
  have w := b_wi (d := d) (h := h) i0 i1
  have ek : (i / 64).toNat = i.toNat / 64 := by omega
  have nae : a ≠ e9 := by
    rintro rfl
    rw [g1] at g2; cases g2
  have b : wd s (i.toNat / 64) ||| (zJ 1 <<< ((zI i).toInt64 &&& zJ 63)) = wd (fun q => decide (q = i.toNat) || s q) (i.toNat / 64) := bit_set (s := s) i0 i1
  have v := b_inv (d := d) (h := jset h9 e9 (1030, wl, ju g (i.toNat / 64) (.long (wd (fun q => decide (q = i.toNat) || s q) (i.toNat / 64))))) (a := a) (e := e9) (u := u9) (by rw [jm_s2 nae]; exact g1)
  rw [X44008 h (jrecv_in h1 rfl), E44008_0]
  simp (disch := first | assumption | omega | decide | exact okF_i | exact okF_r | exact okF_n | exact okF_j | rfl) only [jc_ref, rI_int, rR_ref, rR_null, rJ_long, ckR_ref, ckR_null, ckr_ref, ckr_null, ckW_int, ckW_ref, ckW_null, cI_ok, cR_ok, cR_null, cV_ok, cJ_ok, qH_eq, qD_in, aG_ref, aS_ref, aL_ref, pF_ref, cK_ref, cK_null, zI_lit, zJ_lit, zI_add, zI_sub, zI_mul, zI_neg, zI_eq, zI_lt, zI_le, Int.reduceLT, Int.reduceLE, Int.reduceAdd, Int.reduceSub, Int.reduceMul, Int.reduceNeg, Int.reduceEq, Int.reduceNe, reduceIte, jf_in, pFc_in, aGc_V, aLc_in, cKc_in, nA_in, jm_s1, jm_s2, jm_p1, jm_p2, ckR_is, ckr_is, rR_is, ckW_is, cR_is, obi, okFz0, oBS_0, oBS_1, oBSs_0, oBSs_1, oBSs_2, nBSs_0, nBSs_1, nBSs_2, w, hx]
  rw [if_pos i0]
  simp (disch := first | assumption | omega | decide | exact okF_i | exact okF_r | exact okF_n | exact okF_j | rfl) only [jc_ref, rI_int, rR_ref, rR_null, rJ_long, ckR_ref, ckR_null, ckr_ref, ckr_null, ckW_int, ckW_ref, ckW_null, cI_ok, cR_ok, cR_null, cV_ok, cJ_ok, qH_eq, qD_in, aG_ref, aS_ref, aL_ref, pF_ref, cK_ref, cK_null, zI_lit, zJ_lit, zI_add, zI_sub, zI_mul, zI_neg, zI_eq, zI_lt, zI_le, Int.reduceLT, Int.reduceLE, Int.reduceAdd, Int.reduceSub, Int.reduceMul, Int.reduceNeg, Int.reduceEq, Int.reduceNe, reduceIte, jf_in, pFc_in, aGc_V, aLc_in, cKc_in, nA_in, jm_s1, jm_s2, jm_p1, jm_p2, ckR_is, ckr_is, rR_is, ckW_is, cR_is, obi, okFz0, oBS_0, oBS_1, oBSs_0, oBSs_1, oBSs_2, nBSs_0, nBSs_1, nBSs_2, g1, g2, aGj2, aSj2, ek, gk, b, v]
theorem b_exp0 (h1 : jm h a = some (44, 3, oBS e u)) (u1 : u < 100000) (i0 : 0 ≤ i) (i1 : i < u) : M (d + 1) 44004 [.ref a, .int (zI i)] h = some (.inl none, h) := by
  rw [X44004 h (jrecv_in h1 rfl), E44004_0]
  simp (disch := first | assumption | omega | decide | exact okF_i | exact okF_r | exact okF_n | exact okF_j | rfl) only [jc_ref, rI_int, rR_ref, rR_null, rJ_long, ckR_ref, ckR_null, ckr_ref, ckr_null, ckW_int, ckW_ref, ckW_null, cI_ok, cR_ok, cR_null, cV_ok, cJ_ok, qH_eq, qD_in, aG_ref, aS_ref, aL_ref, pF_ref, cK_ref, cK_null, zI_lit, zJ_lit, zI_add, zI_sub, zI_mul, zI_neg, zI_eq, zI_lt, zI_le, Int.reduceLT, Int.reduceLE, Int.reduceAdd, Int.reduceSub, Int.reduceMul, Int.reduceNeg, Int.reduceEq, Int.reduceNe, reduceIte, jf_in, pFc_in, aGc_V, aLc_in, cKc_in, nA_in, jm_s1, jm_s2, jm_p1, jm_p2, ckR_is, ckr_is, rR_is, ckW_is, cR_is, obi, okFz0, oBS_0, oBS_1, oBSs_0, oBSs_1, oBSs_2, nBSs_0, nBSs_1, nBSs_2, h1]
  rw [if_pos (by omega)]
theorem b_exp1 {h9 : AH} {e9 : Nat} (h1 : jm h a = some (44, 3, oBS e u)) (u0 : 0 ≤ u) (u1 : u < 100000) (i1 : u ≤ i) (i2 : i < 100000) (hx : M d 44003 [.ref a, .int (zI (i + 1))] h = some (.inl none, h9)) (g1 : jm h9 a = some (44, 3, oBS e9 u)) : M (d + 1) 44004 [.ref a, .int (zI i)] h = some (.inl none, jset h9 a (44, 3, oBS e9 (i + 1))) := by
  rw [X44004 h (jrecv_in h1 rfl), E44004_0]
  simp (disch := first | assumption | omega | decide | exact okF_i | exact okF_r | exact okF_n | exact okF_j | rfl) only [jc_ref, rI_int, rR_ref, rR_null, rJ_long, ckR_ref, ckR_null, ckr_ref, ckr_null, ckW_int, ckW_ref, ckW_null, cI_ok, cR_ok, cR_null, cV_ok, cJ_ok, qH_eq, qD_in, aG_ref, aS_ref, aL_ref, pF_ref, cK_ref, cK_null, zI_lit, zJ_lit, zI_add, zI_sub, zI_mul, zI_neg, zI_eq, zI_lt, zI_le, Int.reduceLT, Int.reduceLE, Int.reduceAdd, Int.reduceSub, Int.reduceMul, Int.reduceNeg, Int.reduceEq, Int.reduceNe, reduceIte, jf_in, pFc_in, aGc_V, aLc_in, cKc_in, nA_in, jm_s1, jm_s2, jm_p1, jm_p2, ckR_is, ckr_is, rR_is, ckW_is, cR_is, obi, okFz0, oBS_0, oBS_1, oBSs_0, oBSs_1, oBSs_2, nBSs_0, nBSs_1, nBSs_2, h1, hx, g1]
  rw [if_neg (by omega)]
end
section
variable {Fo : Nat → Option Cl} {h H : AH} {d : Nat} {as : List Value}
theorem pm_bsnew (R : RX Fo h H) : SimR Fo (pBSnew as H) (M (d + 12) 44900 as h) := by
  intro o H2 e
  unfold pBSnew at e
  split at e
  · rename_i a
    obtain ⟨m, e⟩ := wIf_inv e
    have m2 := R.get m rfl
    obtain ⟨W, R⟩ := R
    have hn := R.1.1
    have ha := Nat.lt_of_lt_of_eq (R.2.1 _ _ m).1 hn.symm
    cases e
    refine ⟨_, b_new (d := d + 9) m2 ha, R.up m (show 44 < 1000 by decide) rfl rfl rfl rfl (fun q hq hqa hw => ?_) (Or.inr (Or.inl ⟨1, _, rfl, by decide, fun k _ => rfl, h.1, fun _ => .long 0, 0, jm_s1, if_pos ⟨by omega, by omega⟩, (jm_s2 (Ne.symm (Nat.ne_of_lt ha))).trans jm_p1, fun k _ => ?_, Nat.zero_le _, fun k _ => rfl, fun z => absurd z (Nat.lt_irrefl _)⟩))⟩
    · exact (jm_s2 hqa).trans ((jm_p2 (h := jset _ _ _) (Nat.ne_of_lt hq)).trans (jm_s2 hqa))
    · rw [wd_0 fun _ _ => rfl]
  · cases e
theorem pm_bsget (R : RX Fo h H) : SimR Fo (pBSget as H) (M (d + 12) 44005 as h) := by
  intro o H2 e
  unfold pBSget at e
  split at e
  · rename_i a i
    obtain ⟨wl, s, m, e⟩ := wBS_inv e
    obtain ⟨⟨hw, i0⟩, e⟩ := wIf_inv e
    obtain ⟨W, R⟩ := R
    obtain ⟨w0, hs0, e0, g, u, h1, we, h2, hg, hu, hs, hx⟩ := R.bs m
    cases e
    have := b_get (d := d + 10) (i := i.toInt) h1 h2 hg (by omega) (by omega) hw (fun k hk => hs k (by omega)) i0 (by have := i.toInt_lt; simpa using this)
    rw [zI_self] at this
    exact ⟨h, this, W, R⟩
  · cases e
theorem pm_bsset (R : RX Fo h H) : SimR Fo (pBSset as H) (M (d + 12) 44008 as h) := by
  intro o H2 e
  unfold pBSset at e
  split at e
  · rename_i a ii
    replace e := wBS_inv e
    obtain ⟨wl, s, m, e⟩ := e
    replace e := wIf_inv e
    obtain ⟨⟨hw, i0, i1⟩, e⟩ := e
    obtain ⟨W, R⟩ := R
    have hn := R.1.1
    have ha := Nat.lt_of_lt_of_eq (R.2.1 _ _ m).1 hn.symm
    obtain ⟨w0, hs0, e0, g, u, h1, we, h2, hg, hu, hs, hx⟩ := R.bs m
    have h1 : jm h a = some (44, 3, oBS e0 u) := h1
    have he0 : e0 < h.1 := Nat.lt_of_lt_of_eq (R.2.2.2.2.2.1 _ _ we) hn.symm
    have nae : a ≠ e0 := by
      rintro rfl
      rw [h1] at h2; cases h2
    obtain ⟨i, hi⟩ : ∃ i, i = ii.toInt := ⟨_, rfl⟩
    have hii : ii = zI i := by rw [hi, zI_self]
    rw [← hi] at i0 i1 e
    subst hii
    clear hi
    have q64 : (i / 64).toNat = i.toNat / 64 := by omega
    -- the bits after
    have fin : ∀ (u' : Nat) (g' : Nat → Value) (wl' : Nat), (∀ k, k < wl' → g' k = .long (wd s k)) → i.toNat / 64 < wl' → ∀ k, k < wl' → ju g' (i.toNat / 64) (.long (wd (fun q => decide (q = i.toNat) || s q) (i.toNat / 64))) k = .long (wd (fun q => decide (q = i.toNat) || s q) k) := fun u' g' wl' hg' hl k hk => by
      by_cases hk2 : k = i.toNat / 64
      · subst hk2; rw [ju_self]
      · rw [ju_ne hk2, bit_set_ne hk2, hg' k hk]
    have sout : ∀ (n : Nat), i.toNat < n → (∀ k, n ≤ k → s k = false) → ∀ k, n ≤ k → (decide (k = i.toNat) || s k) = false := fun n hn hs k hk => by
      rw [hs k hk, decide_eq_false (by omega)]; rfl
    by_cases hlt : i.toNat / 64 < wl
    · rw [if_pos hlt] at e
      cases e
      by_cases hu2 : i / 64 < u
      · have x := b_set1 (d := d + 10) (i := i) (s := s) h1 (b_exp0 (d := d + 10) h1 (by omega) (by omega) hu2) h1 h2 (hg _ hlt) (by omega) (by omega) i0 (by omega)
        refine ⟨_, x, R.up0 m (show 244 < 1000 by decide) rfl rfl rfl rfl (fun q _ hq hw2 => jm_s2 (fun z => hw2 (by rw [z]; exact we))) (Or.inr (Or.inl ⟨wl, _, rfl, w0, sout _ (by omega) hs0, e0, _, u, (jm_s2 nae).trans h1, we, jm_s1, fin u g wl hg hlt, hu, sout _ (by omega) hs, fun z => ?_⟩))⟩
        obtain ⟨k, k1, k2, k3⟩ := hx z
        exact ⟨k, k1, k2, by show (decide (k = i.toNat) || s k) = true; rw [k3]; exact Bool.or_true _⟩
      · have x1 := b_ens0 (d := d + 9) (i := i / 64 + 1) h1 h2 hw (by omega) (by omega)
        have x2 := b_exp1 (d := d + 10) (i := i / 64) h1 (by omega) (by omega) (by omega) (by omega) x1 h1
        have x := b_set1 (d := d + 10) (i := i) (s := s) h1 x2 jm_s1 ((jm_s2 (Ne.symm nae)).trans h2) (hg _ hlt) (by omega) (by omega) i0 (by omega)
        refine ⟨_, x, R.up0 m (show 244 < 1000 by decide) rfl rfl rfl rfl (fun q _ hq hw2 => (jm_s2 (fun z => hw2 (by rw [z]; exact we))).trans (jm_s2 hq)) (Or.inr (Or.inl ⟨wl, _, rfl, w0, sout _ (by omega) hs0, e0, _, i.toNat / 64 + 1, (jm_s2 nae).trans (jm_s1.trans ?_), we, jm_s1, fin u g wl hg hlt, by omega, sout _ (by omega) fun k hk => hs k (by omega), fun _ => ⟨i.toNat, by omega, by omega, by simp⟩⟩))⟩
        rw [show i / 64 + 1 = ((i.toNat / 64 + 1 : Nat) : Int) by omega]
        rfl
    · rw [if_neg hlt] at e
      cases e
      have x1 := b_ens1 (d := d + 7) (i := i / 64 + 1) h1 h2 he0 ha hw (by omega) (by omega)
      have hmx : (max (2 * (wl : Int)) (i / 64 + 1)).toNat = max (2 * wl) (i.toNat / 64 + 1) := by omega
      rw [hmx] at x1
      have nh : a ≠ h.1 := Nat.ne_of_lt ha
      have x2 := b_exp1 (d := d + 10) (i := i / 64) h1 (by omega) (by omega) (by omega) (by omega) x1 jm_s1
      have gk : ∀ k, k < max (2 * wl) (i.toNat / 64 + 1) → jcpy g (fun _ => .long 0) 0 0 wl k = .long (wd s k) := fun k hk => by
        unfold jcpy
        by_cases hk3 : k < wl
        · rw [if_pos (by omega), show 0 + (k - 0) = k by omega, hg k hk3]
        · rw [if_neg (by omega), wd_0 fun j _ => hs0 _ (by omega)]
      have x := b_set1 (d := d + 10) (i := i) (s := s) h1 x2 jm_s1 ((jm_s2 (Ne.symm nh)).trans ((jm_s2 (Ne.symm nh)).trans jm_s1)) (gk _ (by omega)) (by omega) (by omega) i0 (by omega)
      refine ⟨_, x, R.up m (show 244 < 1000 by decide) rfl rfl rfl rfl (fun q hq hqa hw2 => ?_) (Or.inr (Or.inl ⟨_, _, rfl, by omega, sout _ (by omega) fun k hk => hs0 k (by omega), h.1, _, i.toNat / 64 + 1, (jm_s2 nh).trans (jm_s1.trans ?_), if_pos ⟨by omega, by omega⟩, jm_s1, fin u _ _ gk (by omega), by omega, sout _ (by omega) fun k hk => hs0 k (by omega), fun _ => ⟨i.toNat, by omega, by omega, by simp⟩⟩))⟩
      · have qh : q ≠ h.1 := Nat.ne_of_lt hq
        exact (jm_s2 qh).trans ((jm_s2 hqa).trans ((jm_s2 hqa).trans ((jm_s2 qh).trans (jm_p2 qh))))
      · rw [show i / 64 + 1 = ((i.toNat / 64 + 1 : Nat) : Int) by omega]
        rfl
  · cases e
end
