/-! ArrayList on its cells -/
def oAL (mc : Int32) (e : Nat) (n : Int) : Nat → Value := jL [.int mc, .ref e, .int (zI n)]
/-- a list just made -/
def nAL : Nat → Value := jL [.int 0, .null, .int 0]
section
variable {mc x : Int32} {e q : Nat} {n z : Int}
theorem nALs_0 : ju nAL 0 (.int (zI 0)) = nAL := (ju_jL (Nat.le_of_ble_eq_true rfl)).trans rfl
theorem nALs_1 : ju nAL 1 (.ref q) = oAL (zI 0) q 0 := (ju_jL (Nat.le_of_ble_eq_true rfl)).trans rfl
theorem oAL_0 : oAL mc e n 0 = .int mc := rfl
theorem oAL_1 : oAL mc e n 1 = .ref e := rfl
theorem oAL_2 : oAL mc e n 2 = .int (zI n) := rfl
theorem oALs_0 : ju (oAL mc e n) 0 (.int x) = oAL x e n := (ju_jL (Nat.le_of_ble_eq_true rfl)).trans rfl
theorem oALs_1 : ju (oAL mc e n) 1 (.ref q) = oAL mc q n := (ju_jL (Nat.le_of_ble_eq_true rfl)).trans rfl
theorem oALs_2 : ju (oAL mc e n) 2 (.int (zI z)) = oAL mc e z := (ju_jL (Nat.le_of_ble_eq_true rfl)).trans rfl
end
-- jc_ref, rI_int, rR_ref, rR_null, rJ_long, ckR_ref, ckR_null, ckr_ref, ckr_null, ckW_int, ckW_ref, ckW_null, cI_ok, cR_ok, cR_null, cV_ok, cJ_ok, qH_eq, qD_in, aG_ref, aS_ref, aL_ref, pF_ref, cK_ref, cK_null, zI_lit, zJ_lit, zI_add, zI_sub, zI_mul, zI_neg, zI_eq, zI_lt, zI_le, Int.reduceLT, Int.reduceLE, Int.reduceAdd, Int.reduceSub, Int.reduceMul, Int.reduceNeg, Int.reduceEq, Int.reduceNe, reduceIte, jf_in, pFc_in, aGc_V, aLc_in, cKc_in, nA_in, jm_s1, jm_s2, jm_p1, jm_p2, ckR_is, ckr_is, rR_is, ckW_is, cR_is, obi, oAL_0, oAL_1, oAL_2, oALs_0, oALs_1, oALs_2 = jc_ref, rI_int, rR_ref, rR_null, rJ_long, ckR_ref, ckR_null, ckr_ref, ckr_null, ckW_int, ckW_ref, ckW_null, cI_ok, cR_ok, cR_null, cV_ok, cJ_ok, qH_eq, qD_in, aG_ref, aS_ref, aL_ref, pF_ref, cK_ref, cK_null, zI_lit, zJ_lit, zI_add, zI_sub, zI_mul, zI_neg, zI_eq, zI_lt, zI_le, Int.reduceLT, Int.reduceLE, Int.reduceAdd, Int.reduceSub, Int.reduceMul, Int.reduceNeg, Int.reduceEq, Int.reduceNe, reduceIte, jf_in, pFc_in, aGc_V, aLc_in, cKc_in, nA_in, jm_s1, jm_s2, jm_p1, jm_p2, ckR_is, ckr_is, rR_is, ckW_is, cR_is, obi, oAL_0, oAL_1, oAL_2, oALs_0, oALs_1, oALs_2
section
variable {d : Nat} {h : AH} {a e cap q0 : Nat} {g : Nat → Value} {mc : Int32} {n i : Int} {v w : Value}
theorem l_size (h1 : jm h a = some (43, 3, oAL mc e n)) : M (d + 1) 43017 [.ref a] h = some (.inl (some (.int (zI n))), h) := by
  rw [X43017 h (jrecv_in h1 rfl), E43017_0]
  simp (disch := first | assumption | omega | decide | exact okF_i | exact okF_r | exact okF_n | exact okF_j | rfl) only [jc_ref, rI_int, rR_ref, rR_null, rJ_long, ckR_ref, ckR_null, ckr_ref, ckr_null, ckW_int, ckW_ref, ckW_null, cI_ok, cR_ok, cR_null, cV_ok, cJ_ok, qH_eq, qD_in, aG_ref, aS_ref, aL_ref, pF_ref, cK_ref, cK_null, zI_lit, zJ_lit, zI_add, zI_sub, zI_mul, zI_neg, zI_eq, zI_lt, zI_le, Int.reduceLT, Int.reduceLE, Int.reduceAdd, Int.reduceSub, Int.reduceMul, Int.reduceNeg, Int.reduceEq, Int.reduceNe, reduceIte, jf_in, pFc_in, aGc_V, aLc_in, cKc_in, nA_in, jm_s1, jm_s2, jm_p1, jm_p2, ckR_is, ckr_is, rR_is, ckW_is, cR_is, obi, oAL_0, oAL_1, oAL_2, oALs_0, oALs_1, oALs_2, h1]
theorem l_empty (h1 : jm h a = some (43, 3, oAL mc e n)) (n0 : 0 ≤ n) (n1 : n < 100000) : M (d + 1) 43010 [.ref a] h = some (.inl (some (.int (if n = 0 then 1 else 0))), h) := by
  rw [X43010 h (jrecv_in h1 rfl), E43010_0]
  by_cases hn : n = 0
  · simp (disch := first | assumption | omega | decide | exact okF_i | exact okF_r | exact okF_n | exact okF_j | rfl) only [jc_ref, rI_int, rR_ref, rR_null, rJ_long, ckR_ref, ckR_null, ckr_ref, ckr_null, ckW_int, ckW_ref, ckW_null, cI_ok, cR_ok, cR_null, cV_ok, cJ_ok, qH_eq, qD_in, aG_ref, aS_ref, aL_ref, pF_ref, cK_ref, cK_null, zI_lit, zJ_lit, zI_add, zI_sub, zI_mul, zI_neg, zI_eq, zI_lt, zI_le, Int.reduceLT, Int.reduceLE, Int.reduceAdd, Int.reduceSub, Int.reduceMul, Int.reduceNeg, Int.reduceEq, Int.reduceNe, reduceIte, jf_in, pFc_in, aGc_V, aLc_in, cKc_in, nA_in, jm_s1, jm_s2, jm_p1, jm_p2, ckR_is, ckr_is, rR_is, ckW_is, cR_is, obi, oAL_0, oAL_1, oAL_2, oALs_0, oALs_1, oALs_2, h1, if_pos hn, hn]
  · simp (disch := first | assumption | omega | decide | exact okF_i | exact okF_r | exact okF_n | exact okF_j | rfl) only [jc_ref, rI_int, rR_ref, rR_null, rJ_long, ckR_ref, ckR_null, ckr_ref, ckr_null, ckW_int, ckW_ref, ckW_null, cI_ok, cR_ok, cR_null, cV_ok, cJ_ok, qH_eq, qD_in, aG_ref, aS_ref, aL_ref, pF_ref, cK_ref, cK_null, zI_lit, zJ_lit, zI_add, zI_sub, zI_mul, zI_neg, zI_eq, zI_lt, zI_le, Int.reduceLT, Int.reduceLE, Int.reduceAdd, Int.reduceSub, Int.reduceMul, Int.reduceNeg, Int.reduceEq, Int.reduceNe, reduceIte, jf_in, pFc_in, aGc_V, aLc_in, cKc_in, nA_in, jm_s1, jm_s2, jm_p1, jm_p2, ckR_is, ckr_is, rR_is, ckW_is, cR_is, obi, oAL_0, oAL_1, oAL_2, oALs_0, oALs_1, oALs_2, h1, if_neg hn]
theorem l_edata {t : Nat} (h1 : jm h a = some (43, 3, oAL mc e n)) (h2 : jm h e = some (t, cap, g)) (ht : t = 1040 ∨ t = 1041) (i0 : 0 ≤ i) (i1 : i < cap) (hc : cap < 100000) (hg : isR (g i.toNat) = true) : M (d + 1) 43003 [.ref a, .int (zI i)] h = some (.inl (some (g i.toNat)), h) := by
  rw [X43003 h (jrecv_in h1 rfl), E43003_0]
  rcases ht with rfl | rfl
  · simp (disch := first | assumption | omega | decide | exact okF_i | exact okF_r | exact okF_n | exact okF_j | rfl) only [jc_ref, rI_int, rR_ref, rR_null, rJ_long, ckR_ref, ckR_null, ckr_ref, ckr_null, ckW_int, ckW_ref, ckW_null, cI_ok, cR_ok, cR_null, cV_ok, cJ_ok, qH_eq, qD_in, aG_ref, aS_ref, aL_ref, pF_ref, cK_ref, cK_null, zI_lit, zJ_lit, zI_add, zI_sub, zI_mul, zI_neg, zI_eq, zI_lt, zI_le, Int.reduceLT, Int.reduceLE, Int.reduceAdd, Int.reduceSub, Int.reduceMul, Int.reduceNeg, Int.reduceEq, Int.reduceNe, reduceIte, jf_in, pFc_in, aGc_V, aLc_in, cKc_in, nA_in, jm_s1, jm_s2, jm_p1, jm_p2, ckR_is, ckr_is, rR_is, ckW_is, cR_is, obi, oAL_0, oAL_1, oAL_2, oALs_0, oALs_1, oALs_2, h1, h2]
  · simp (disch := first | assumption | omega | decide | exact okF_i | exact okF_r | exact okF_n | exact okF_j | rfl) only [jc_ref, rI_int, rR_ref, rR_null, rJ_long, ckR_ref, ckR_null, ckr_ref, ckr_null, ckW_int, ckW_ref, ckW_null, cI_ok, cR_ok, cR_null, cV_ok, cJ_ok, qH_eq, qD_in, aG_ref, aS_ref, aL_ref, pF_ref, cK_ref, cK_null, zI_lit, zJ_lit, zI_add, zI_sub, zI_mul, zI_neg, zI_eq, zI_lt, zI_le, Int.reduceLT, Int.reduceLE, Int.reduceAdd, Int.reduceSub, Int.reduceMul, Int.reduceNeg, Int.reduceEq, Int.reduceNe, reduceIte, jf_in, pFc_in, aGc_V, aLc_in, cKc_in, nA_in, jm_s1, jm_s2, jm_p1, jm_p2, ckR_is, ckr_is, rR_is, ckW_is, cR_is, obi, oAL_0, oAL_1, oAL_2, oALs_0, oALs_1, oALs_2, h1, h2]
theorem l_get (h1 : jm h a = some (43, 3, oAL mc e n)) (h2 : jm h e = some (1040, cap, g)) (i0 : 0 ≤ i) (i1 : i < n) (hn : n ≤ cap) (hc : cap < 100000) (hg : isR (g i.toNat) = true) : M (d + 3) 43005 [.ref a, .int (zI i)] h = some (.inl (some (g i.toNat)), h) := by
  have e1 := ob_check (d := d) (h := h) i0 i1 (by omega)
  have e2 := l_edata (d := d + 1) h1 h2 (Or.inl rfl) i0 (by omega) hc hg
  rw [X43005 h (jrecv_in h1 rfl), E43005_0]
  simp (disch := first | assumption | omega | decide | exact okF_i | exact okF_r | exact okF_n | exact okF_j | rfl) only [jc_ref, rI_int, rR_ref, rR_null, rJ_long, ckR_ref, ckR_null, ckr_ref, ckr_null, ckW_int, ckW_ref, ckW_null, cI_ok, cR_ok, cR_null, cV_ok, cJ_ok, qH_eq, qD_in, aG_ref, aS_ref, aL_ref, pF_ref, cK_ref, cK_null, zI_lit, zJ_lit, zI_add, zI_sub, zI_mul, zI_neg, zI_eq, zI_lt, zI_le, Int.reduceLT, Int.reduceLE, Int.reduceAdd, Int.reduceSub, Int.reduceMul, Int.reduceNeg, Int.reduceEq, Int.reduceNe, reduceIte, jf_in, pFc_in, aGc_V, aLc_in, cKc_in, nA_in, jm_s1, jm_s2, jm_p1, jm_p2, ckR_is, ckr_is, rR_is, ckW_is, cR_is, obi, oAL_0, oAL_1, oAL_2, oALs_0, oALs_1, oALs_2, h1, e1, e2]
theorem l_set (h1 : jm h a = some (43, 3, oAL mc e n)) (h2 : jm h e = some (1040, cap, g)) (i0 : 0 ≤ i) (i1 : i < n) (hn : n ≤ cap) (hc : cap < 100000) (hg : isR (g i.toNat) = true) (ok : okH h v) : M (d + 3) 43016 [.ref a, .int (zI i), v] h = some (.inl (some (g i.toNat)), jset h e (1040, cap, ju g i.toNat v)) := by
  have e1 := ob_check (d := d) (h := h) i0 i1 (by omega)
  have e2 := l_edata (d := d + 1) h1 h2 (Or.inl rfl) i0 (by omega) hc hg
  have hv := okH_r ok
  rw [X43016 h hv (jrecv_in h1 rfl), E43016_0]
  have e3 := fun (κ : AH → Rz) (u : Ph κ) => aSr_in (κ := κ) (u := u) h2 ok i0 (by omega) (by omega)
  simp (disch := first | assumption | omega | decide | exact okF_i | exact okF_r | exact okF_n | exact okF_j | rfl) only [jc_ref, rI_int, rR_ref, rR_null, rJ_long, ckR_ref, ckR_null, ckr_ref, ckr_null, ckW_int, ckW_ref, ckW_null, cI_ok, cR_ok, cR_null, cV_ok, cJ_ok, qH_eq, qD_in, aG_ref, aS_ref, aL_ref, pF_ref, cK_ref, cK_null, zI_lit, zJ_lit, zI_add, zI_sub, zI_mul, zI_neg, zI_eq, zI_lt, zI_le, Int.reduceLT, Int.reduceLE, Int.reduceAdd, Int.reduceSub, Int.reduceMul, Int.reduceNeg, Int.reduceEq, Int.reduceNe, reduceIte, jf_in, pFc_in, aGc_V, aLc_in, cKc_in, nA_in, jm_s1, jm_s2, jm_p1, jm_p2, ckR_is, ckr_is, rR_is, ckW_is, cR_is, obi, oAL_0, oAL_1, oAL_2, oALs_0, oALs_1, oALs_2, h1, e1, e2, e3]
theorem l_new0 (h1 : jm h a = some (43, 3, nAL)) : M (d + 3) 42900 [.ref a] h = some (.inl none, jset h a (43, 3, nAL)) := by
  rw [X42900 h (jrecv_in h1 rfl), E42900_0, X41900 h (jrecv_in h1 rfl), E41900_0]
  simp (disch := first | assumption | omega | decide | exact okF_i | exact okF_r | exact okF_n | exact okF_j | rfl) only [jc_ref, rI_int, rR_ref, rR_null, rJ_long, ckR_ref, ckR_null, ckr_ref, ckr_null, ckW_int, ckW_ref, ckW_null, cI_ok, cR_ok, cR_null, cV_ok, cJ_ok, qH_eq, qD_in, aG_ref, aS_ref, aL_ref, pF_ref, cK_ref, cK_null, zI_lit, zJ_lit, zI_add, zI_sub, zI_mul, zI_neg, zI_eq, zI_lt, zI_le, Int.reduceLT, Int.reduceLE, Int.reduceAdd, Int.reduceSub, Int.reduceMul, Int.reduceNeg, Int.reduceEq, Int.reduceNe, reduceIte, jf_in, pFc_in, aGc_V, aLc_in, cKc_in, nA_in, jm_s1, jm_s2, jm_p1, jm_p2, ckR_is, ckr_is, rR_is, ckW_is, cR_is, obi, h1, nALs_0]
theorem l_new (h1 : jm h a = some (43, 3, nAL)) (he : je h 0 = .ref e) : M (d + 4) 43900 [.ref a] h = some (.inl none, jset h a (43, 3, oAL (zI 0) e 0)) := by
  rw [X43900 h (jrecv_in h1 rfl), E43900_0, l_new0 h1]
  simp (disch := first | assumption | omega | decide | exact okF_i | exact okF_r | exact okF_n | exact okF_j | rfl) only [jc_ref, rI_int, rR_ref, rR_null, rJ_long, ckR_ref, ckR_null, ckr_ref, ckr_null, ckW_int, ckW_ref, ckW_null, cI_ok, cR_ok, cR_null, cV_ok, cJ_ok, qH_eq, qD_in, aG_ref, aS_ref, aL_ref, pF_ref, cK_ref, cK_null, zI_lit, zJ_lit, zI_add, zI_sub, zI_mul, zI_neg, zI_eq, zI_lt, zI_le, Int.reduceLT, Int.reduceLE, Int.reduceAdd, Int.reduceSub, Int.reduceMul, Int.reduceNeg, Int.reduceEq, Int.reduceNe, reduceIte, jf_in, pFc_in, aGc_V, aLc_in, cKc_in, nA_in, jm_s1, jm_s2, jm_p1, jm_p2, ckR_is, ckr_is, rR_is, ckW_is, cR_is, obi, je_set, he, nALs_1, jset_jset]
theorem l_newC (h1 : jm h a = some (43, 3, nAL)) (ha : a < h.1) (i0 : 0 < i) (i1 : i < 100000) : M (d + 4) 43901 [.ref a, .int (zI i)] h = some (.inl none, jset (jpush (jset h a (43, 3, nAL)) (1040, i.toNat, fun _ => .null)) a (43, 3, oAL (zI 0) h.1 0)) := by
  have h3 : (jset h a (43, 3, nAL)).1 = h.1 := rfl
  have e2 : jm (jpush (jset h a (43, 3, nAL)) (1040, i.toNat, fun _ => .null)) a = some (43, 3, nAL) := by
    rw [jm_p2 (by rw [h3]; omega), jm_s1]
  rw [X43901 h (jrecv_in h1 rfl), E43901_0, l_new0 h1]
  simp (disch := first | assumption | omega | decide | exact okF_i | exact okF_r | exact okF_n | exact okF_j | rfl) only [jc_ref, rI_int, rR_ref, rR_null, rJ_long, ckR_ref, ckR_null, ckr_ref, ckr_null, ckW_int, ckW_ref, ckW_null, cI_ok, cR_ok, cR_null, cV_ok, cJ_ok, qH_eq, qD_in, aG_ref, aS_ref, aL_ref, pF_ref, cK_ref, cK_null, zI_lit, zJ_lit, zI_add, zI_sub, zI_mul, zI_neg, zI_eq, zI_lt, zI_le, Int.reduceLT, Int.reduceLE, Int.reduceAdd, Int.reduceSub, Int.reduceMul, Int.reduceNeg, Int.reduceEq, Int.reduceNe, reduceIte]
  rw [if_neg (by omega)]
  simp (disch := first | assumption | omega | decide | exact okF_i | exact okF_r | exact okF_n | exact okF_j | rfl) only [jc_ref, rI_int, rR_ref, rR_null, rJ_long, ckR_ref, ckR_null, ckr_ref, ckr_null, ckW_int, ckW_ref, ckW_null, cI_ok, cR_ok, cR_null, cV_ok, cJ_ok, qH_eq, qD_in, aG_ref, aS_ref, aL_ref, pF_ref, cK_ref, cK_null, zI_lit, zJ_lit, zI_add, zI_sub, zI_mul, zI_neg, zI_eq, zI_lt, zI_le, Int.reduceLT, Int.reduceLE, Int.reduceAdd, Int.reduceSub, Int.reduceMul, Int.reduceNeg, Int.reduceEq, Int.reduceNe, reduceIte, jf_in, pFc_in, aGc_V, aLc_in, cKc_in, nA_in, jm_s1, jm_s2, jm_p1, jm_p2, ckR_is, ckr_is, rR_is, ckW_is, cR_is, obi, zI_clamp, e2, h3, nALs_1]
/-- but for some cells all is as it was -/
def Only (h h2 : AH) (P : Nat → Prop) : Prop := h2.1 = h.1 ∧ h2.2.1 = h.2.1 ∧ h2.2.2.1 = h.2.2.1 ∧ ∀ q, ¬ P q → jm h2 q = jm h q
theorem Only.set {h h2 : AH} {P : Nat → Prop} {q : Nat} {c : Cl} (o : Only (jset h q c) h2 P) (hq : P q) : Only h h2 P := by
  obtain ⟨o1, o2, o3, o4⟩ := o
  refine ⟨o1, o2, o3, fun r hr => ?_⟩
  rw [o4 r hr, jm_s2]
  rintro rfl; exact hr hq
theorem l_clear2 : ∀ (j : Nat) (k : Int) (h : AH) (g : Nat → Value), jm h e = some (1040, cap, g) → cap < 100000 → 0 ≤ k → n ≤ cap → k + j = n → ∃ h2 g2, G d 43002 27 [.ref a, .ref e, .int (zI n), .int (zI k)] [] h = some (.inl none, h2) ∧ Only h h2 (fun q => q = e) ∧ jm h2 e = some (1040, cap, g2) ∧ ∀ m, (m < k.toNat ∨ n.toNat ≤ m → g2 m = g m) ∧ (k.toNat ≤ m → m < n.toNat → g2 m = .null) := by
  intro j
  induction j with
  | zero =>
    intro k h g h2 hc k0 hn hk
    refine ⟨h, g, ?_, ⟨rfl, rfl, rfl, fun _ _ => rfl⟩, h2, fun m => ⟨fun _ => rfl, fun a b => by omega⟩⟩
    rw [E43002_27]
    simp (disch := omega) only [zI_lit, zJ_lit, zI_add, zI_sub, zI_mul, zI_neg, zI_eq, zI_lt, zI_le, Int.reduceLT, Int.reduceLE, Int.reduceAdd, Int.reduceSub, Int.reduceMul, Int.reduceNeg, Int.reduceEq, Int.reduceNe, reduceIte]
    rw [if_pos (by omega)]
  | succ j ih =>
    intro k h g h2 hc k0 hn hk
    obtain ⟨h3, g2, e1, o, m2, e2⟩ := ih (k + 1) (jset h e (1040, cap, ju g k.toNat .null)) (ju g k.toNat .null) jm_s1 hc (by omega) hn (by omega)
    refine ⟨h3, g2, ?_, o.set rfl, m2, fun m => ⟨fun hm => ?_, fun a b => ?_⟩⟩
    · rw [E43002_27]
      have e3 := fun (κ : AH → Rz) (u : Ph κ) => aSr_in (κ := κ) (u := u) (v := .null) (i := k) h2 (Or.inl rfl) k0 (by omega) (by omega)
      simp (disch := omega) only [jc_ref, rI_int, rR_ref, rR_null, rJ_long, ckR_ref, ckR_null, ckr_ref, ckr_null, ckW_int, ckW_ref, ckW_null, cI_ok, cR_ok, cR_null, cV_ok, cJ_ok, qH_eq, qD_in, aG_ref, aS_ref, aL_ref, pF_ref, cK_ref, cK_null, zI_lit, zJ_lit, zI_add, zI_sub, zI_mul, zI_neg, zI_eq, zI_lt, zI_le, Int.reduceLT, Int.reduceLE, Int.reduceAdd, Int.reduceSub, Int.reduceMul, Int.reduceNeg, Int.reduceEq, Int.reduceNe, reduceIte, e3]
      rw [if_neg (by omega), e1]
    · rw [(e2 m).1 (by omega), ju_ne (by omega)]
    · by_cases hm : m = k.toNat
      · subst hm
        rw [(e2 k.toNat).1 (Or.inl (by omega)), ju_self]
      · exact (e2 m).2 (by omega) b
theorem l_clear (h1 : jm h a = some (43, 3, oAL mc e n)) (h2 : n = 0 ∨ (jm h e = some (1040, cap, g) ∧ n ≤ cap)) (hea : e ≠ a) (hc : cap < 100000) (n0 : 0 ≤ n) : ∃ h3 g2, M (d + 1) 43002 [.ref a] h = some (.inl none, h3) ∧ Only h h3 (fun q => q = a ∨ (q = e ∧ n ≠ 0)) ∧ jm h3 a = some (43, 3, oAL (mc + zI 1) e 0) ∧ (n ≠ 0 → jm h3 e = some (1040, cap, g2)) ∧ ∀ m, (n.toNat ≤ m → g2 m = g m) ∧ (m < n.toNat → g2 m = .null) := by
  rw [X43002 h (jrecv_in h1 rfl), E43002_0]
  simp (disch := first | assumption | omega | decide | exact okF_i | exact okF_r | exact okF_n | exact okF_j | rfl) only [jc_ref, rI_int, rR_ref, rR_null, rJ_long, ckR_ref, ckR_null, ckr_ref, ckr_null, ckW_int, ckW_ref, ckW_null, cI_ok, cR_ok, cR_null, cV_ok, cJ_ok, qH_eq, qD_in, aG_ref, aS_ref, aL_ref, pF_ref, cK_ref, cK_null, zI_lit, zJ_lit, zI_add, zI_sub, zI_mul, zI_neg, zI_eq, zI_lt, zI_le, Int.reduceLT, Int.reduceLE, Int.reduceAdd, Int.reduceSub, Int.reduceMul, Int.reduceNeg, Int.reduceEq, Int.reduceNe, reduceIte, jf_in, pFc_in, aGc_V, aLc_in, cKc_in, nA_in, jm_s1, jm_s2, jm_p1, jm_p2, ckR_is, ckr_is, rR_is, ckW_is, cR_is, obi, oAL_0, oAL_1, oAL_2, oALs_0, oALs_1, oALs_2, h1]
  rcases h2 with hn | ⟨h2, hn⟩
  · subst hn
    rw [E43002_27]
    simp (disch := omega) only [zI_lit, zJ_lit, zI_add, zI_sub, zI_mul, zI_neg, zI_eq, zI_lt, zI_le, Int.reduceLT, Int.reduceLE, Int.reduceAdd, Int.reduceSub, Int.reduceMul, Int.reduceNeg, Int.reduceEq, Int.reduceNe, reduceIte]
    refine ⟨_, g, rfl, ⟨rfl, rfl, rfl, fun q hq => ?_⟩, jm_s1, fun x => x.elim, fun m => ⟨fun _ => rfl, fun x => absurd x (Nat.not_lt_zero _)⟩⟩
    rw [jm_s2 (fun x => hq (Or.inl x)), jm_s2 (fun x => hq (Or.inl x))]
  · obtain ⟨h3, g2, e1, o, m2, e2⟩ := l_clear2 (d := d) (a := a) n.toNat 0 (jset (jset h a (43, 3, oAL (mc + zI 1) e n)) a (43, 3, oAL (mc + zI 1) e 0)) g (by rw [jm_s2 hea, jm_s2 hea]; exact h2) hc (by omega) hn (by omega)
    refine ⟨h3, g2, e1, ?_, ?_, fun _ => m2, fun m => ⟨fun hm => (e2 m).1 (Or.inr hm), fun hm => (e2 m).2 (by omega) hm⟩⟩
    · obtain ⟨o1, o2, o3, o4⟩ := o
      refine ⟨o1, o2, o3, fun q hq => ?_⟩
      by_cases n00 : n = 0
      · by_cases hqe : q = e
        · subst hqe
          rw [m2, h2]
          have : g2 = g := funext fun m => (e2 m).1 (Or.inr (by omega))
          rw [this]
        · rw [o4 q hqe, jm_s2 (fun x => hq (Or.inl x)), jm_s2 (fun x => hq (Or.inl x))]
      · rw [o4 q (fun x => hq (Or.inr ⟨x, n00⟩)), jm_s2 (fun x => hq (Or.inl x)), jm_s2 (fun x => hq (Or.inl x))]
    · rw [o.2.2.2 a (fun x => hea x.symm), jm_s1]
theorem l_add2 (h1 : jm h a = some (43, 3, oAL mc e n)) (h2 : jm h e = some (1040, cap, g)) (hea : a ≠ e) (n0 : 0 ≤ n) (n1 : n < cap) (hc : cap < 100000) (ok : okH h v) : M (d + 1) 43001 [.ref a, v, .ref e, .int (zI n)] h = some (.inl none, jset (jset h e (1040, cap, ju g n.toNat v)) a (43, 3, oAL mc e (n + 1))) := by
  have hv := okH_r ok
  have e3 := fun (κ : AH → Rz) (u : Ph κ) => aSr_in (κ := κ) (u := u) h2 ok n0 (by omega) (by omega)
  rw [X43001 h hv rfl (jrecv_in h1 rfl), E43001_0]
  simp (disch := first | assumption | omega | decide | exact okF_i | exact okF_r | exact okF_n | exact okF_j | rfl) only [jc_ref, rI_int, rR_ref, rR_null, rJ_long, ckR_ref, ckR_null, ckr_ref, ckr_null, ckW_int, ckW_ref, ckW_null, cI_ok, cR_ok, cR_null, cV_ok, cJ_ok, qH_eq, qD_in, aG_ref, aS_ref, aL_ref, pF_ref, cK_ref, cK_null, zI_lit, zJ_lit, zI_add, zI_sub, zI_mul, zI_neg, zI_eq, zI_lt, zI_le, Int.reduceLT, Int.reduceLE, Int.reduceAdd, Int.reduceSub, Int.reduceMul, Int.reduceNeg, Int.reduceEq, Int.reduceNe, reduceIte, jf_in, pFc_in, aGc_V, aLc_in, cKc_in, nA_in, jm_s1, jm_s2, jm_p1, jm_p2, ckR_is, ckr_is, rR_is, ckW_is, cR_is, obi, oAL_0, oAL_1, oAL_2, oALs_0, oALs_1, oALs_2, h2, e3]
  rw [if_neg (by omega)]
  simp (disch := first | assumption | omega | decide | exact okF_i | exact okF_r | exact okF_n | exact okF_j | rfl) only [jc_ref, rI_int, rR_ref, rR_null, rJ_long, ckR_ref, ckR_null, ckr_ref, ckr_null, ckW_int, ckW_ref, ckW_null, cI_ok, cR_ok, cR_null, cV_ok, cJ_ok, qH_eq, qD_in, aG_ref, aS_ref, aL_ref, pF_ref, cK_ref, cK_null, zI_lit, zJ_lit, zI_add, zI_sub, zI_mul, zI_neg, zI_eq, zI_lt, zI_le, Int.reduceLT, Int.reduceLE, Int.reduceAdd, Int.reduceSub, Int.reduceMul, Int.reduceNeg, Int.reduceEq, Int.reduceNe, reduceIte, jf_in, pFc_in, aGc_V, aLc_in, cKc_in, nA_in, jm_s1, jm_s2, jm_p1, jm_p2, ckR_is, ckr_is, rR_is, ckW_is, cR_is, obi, oAL_0, oAL_1, oAL_2, oALs_0, oALs_1, oALs_2, jm_s2, h1]
/-- Arrays.copyOf -/
theorem a_copyOf {t : Nat} {m : Int} (h2 : jm h e = some (t, cap, g)) (ht : t = 1040 ∨ t = 1041) (he : e < h.1) (hm : je h 47 = .ref q0) (hc : cap < 100000) (m0 : 0 ≤ m) (m1 : m < 1000000) : M (d + 3) 45004 [.ref e, .int (zI m)] h = some (.inl (some (.ref h.1)), jset (jpush h (1040, m.toNat, fun _ => .null)) h.1 (1040, m.toNat, jcpy g (fun _ => .null) 0 0 (min (cap : Int) m).toNat)) := by
  have e1 := gcl (d := d + 1) h2 ht
  have ep : jm (jpush h (1040, m.toNat, fun _ => .null)) e = some (t, cap, g) := by rw [jm_p2 (by omega)]; exact h2
  have e2 := m_min (d := d) (h := jpush h (1040, m.toNat, fun _ => .null)) (i := cap) (j := m) ⟨by omega, by omega⟩ ⟨by omega, by omega⟩
  have hcp : cpOk t 1040 = true := by rcases ht with rfl | rfl <;> rfl
  have e3 := acp (d := d) (sp := 0) (dp := 0) (k := min (cap : Int) m) ep jm_p1 hcp (by omega) (by omega) (by omega) (by omega) (by omega) (by omega) (by omega)
  have e4 : M (d + 2) 45005 [.ref e, .int (zI m), .ref q0] h = some (.inl (some (.ref h.1)), jset (jpush h (1040, m.toNat, fun _ => .null)) h.1 (1040, m.toNat, jcpy g (fun _ => .null) 0 0 (min (cap : Int) m).toNat)) := by
    rw [X45005 h rfl rfl, E45005_0]
    simp (disch := first | assumption | omega | decide | exact okF_i | exact okF_r | exact okF_n | exact okF_j | rfl) only [jc_ref, rI_int, rR_ref, rR_null, rJ_long, ckR_ref, ckR_null, ckr_ref, ckr_null, ckW_int, ckW_ref, ckW_null, cI_ok, cR_ok, cR_null, cV_ok, cJ_ok, qH_eq, qD_in, aG_ref, aS_ref, aL_ref, pF_ref, cK_ref, cK_null, zI_lit, zJ_lit, zI_add, zI_sub, zI_mul, zI_neg, zI_eq, zI_lt, zI_le, Int.reduceLT, Int.reduceLE, Int.reduceAdd, Int.reduceSub, Int.reduceMul, Int.reduceNeg, Int.reduceEq, Int.reduceNe, reduceIte, hm, if_true, nA_in, zI_clamp, ep]
    rcases ht with rfl | rfl
    · simp (disch := first | assumption | omega | decide | exact okF_i | exact okF_r | exact okF_n | exact okF_j | rfl) only [jc_ref, rI_int, rR_ref, rR_null, rJ_long, ckR_ref, ckR_null, ckr_ref, ckr_null, ckW_int, ckW_ref, ckW_null, cI_ok, cR_ok, cR_null, cV_ok, cJ_ok, qH_eq, qD_in, aG_ref, aS_ref, aL_ref, pF_ref, cK_ref, cK_null, zI_lit, zJ_lit, zI_add, zI_sub, zI_mul, zI_neg, zI_eq, zI_lt, zI_le, Int.reduceLT, Int.reduceLE, Int.reduceAdd, Int.reduceSub, Int.reduceMul, Int.reduceNeg, Int.reduceEq, Int.reduceNe, reduceIte, zI_clamp, aLc_in, e2, e3]
      rfl
    · simp (disch := first | assumption | omega | decide | exact okF_i | exact okF_r | exact okF_n | exact okF_j | rfl) only [jc_ref, rI_int, rR_ref, rR_null, rJ_long, ckR_ref, ckR_null, ckr_ref, ckr_null, ckW_int, ckW_ref, ckW_null, cI_ok, cR_ok, cR_null, cV_ok, cJ_ok, qH_eq, qD_in, aG_ref, aS_ref, aL_ref, pF_ref, cK_ref, cK_null, zI_lit, zJ_lit, zI_add, zI_sub, zI_mul, zI_neg, zI_eq, zI_lt, zI_le, Int.reduceLT, Int.reduceLE, Int.reduceAdd, Int.reduceSub, Int.reduceMul, Int.reduceNeg, Int.reduceEq, Int.reduceNe, reduceIte, zI_clamp, aLc_in, e2, e3]
      rfl
  rw [X45004 h rfl, E45004_0, e1, hm]
  simp (disch := first | assumption | omega | decide | exact okF_i | exact okF_r | exact okF_n | exact okF_j | rfl) only [jc_ref, rI_int, rR_ref, rR_null, rJ_long, ckR_ref, ckR_null, ckr_ref, ckr_null, ckW_int, ckW_ref, ckW_null, cI_ok, cR_ok, cR_null, cV_ok, cJ_ok, qH_eq, qD_in, aG_ref, aS_ref, aL_ref, pF_ref, cK_ref, cK_null, e4]
theorem l_grow0 (h1 : jm h a = some (43, 3, oAL mc e 0)) (h2 : jm h e = some (1041, 0, g)) (he0 : je h 0 = .ref e) (ha : a < h.1) : M (d + 3) 43006 [.ref a] h = some (.inl (some (.ref h.1)), jset (jpush h (1040, 10, fun _ => .null)) a (43, 3, oAL mc h.1 0)) := by
  have e2 := m_max (d := d) (h := h) (i := 10) (j := 1) ⟨by omega, by omega⟩ ⟨by omega, by omega⟩
  have e3 : M (d + 2) 43007 [.ref a, .int (zI 1)] h = some (.inl (some (.ref h.1)), jset (jpush h (1040, 10, fun _ => .null)) a (43, 3, oAL mc h.1 0)) := by
    rw [X43007 h (jrecv_in h1 rfl), E43007_0]
    simp (disch := first | assumption | omega | decide | exact okF_i | exact okF_r | exact okF_n | exact okF_j | rfl) only [jc_ref, rI_int, rR_ref, rR_null, rJ_long, ckR_ref, ckR_null, ckr_ref, ckr_null, ckW_int, ckW_ref, ckW_null, cI_ok, cR_ok, cR_null, cV_ok, cJ_ok, qH_eq, qD_in, aG_ref, aS_ref, aL_ref, pF_ref, cK_ref, cK_null, zI_lit, zJ_lit, zI_add, zI_sub, zI_mul, zI_neg, zI_eq, zI_lt, zI_le, Int.reduceLT, Int.reduceLE, Int.reduceAdd, Int.reduceSub, Int.reduceMul, Int.reduceNeg, Int.reduceEq, Int.reduceNe, reduceIte, jf_in, pFc_in, aGc_V, aLc_in, cKc_in, nA_in, jm_s1, jm_s2, jm_p1, jm_p2, ckR_is, ckr_is, rR_is, ckW_is, cR_is, obi, oAL_0, oAL_1, oAL_2, oALs_0, oALs_1, oALs_2, h1, h2, he0]
    rw [if_neg (by decide)]
    simp (disch := first | assumption | omega | decide | exact okF_i | exact okF_r | exact okF_n | exact okF_j | rfl) only [jc_ref, rI_int, rR_ref, rR_null, rJ_long, ckR_ref, ckR_null, ckr_ref, ckr_null, ckW_int, ckW_ref, ckW_null, cI_ok, cR_ok, cR_null, cV_ok, cJ_ok, qH_eq, qD_in, aG_ref, aS_ref, aL_ref, pF_ref, cK_ref, cK_null, zI_lit, zJ_lit, zI_add, zI_sub, zI_mul, zI_neg, zI_eq, zI_lt, zI_le, Int.reduceLT, Int.reduceLE, Int.reduceAdd, Int.reduceSub, Int.reduceMul, Int.reduceNeg, Int.reduceEq, Int.reduceNe, reduceIte, jf_in, pFc_in, aGc_V, aLc_in, cKc_in, nA_in, jm_s1, jm_s2, jm_p1, jm_p2, ckR_is, ckr_is, rR_is, ckW_is, cR_is, obi, oAL_0, oAL_1, oAL_2, oALs_0, oALs_1, oALs_2, he0, if_true, e2, h1, jm_p2]
    rfl
  rw [X43006 h (jrecv_in h1 rfl), E43006_0]
  simp (disch := first | assumption | omega | decide | exact okF_i | exact okF_r | exact okF_n | exact okF_j | rfl) only [jc_ref, rI_int, rR_ref, rR_null, rJ_long, ckR_ref, ckR_null, ckr_ref, ckr_null, ckW_int, ckW_ref, ckW_null, cI_ok, cR_ok, cR_null, cV_ok, cJ_ok, qH_eq, qD_in, aG_ref, aS_ref, aL_ref, pF_ref, cK_ref, cK_null, zI_lit, zJ_lit, zI_add, zI_sub, zI_mul, zI_neg, zI_eq, zI_lt, zI_le, Int.reduceLT, Int.reduceLE, Int.reduceAdd, Int.reduceSub, Int.reduceMul, Int.reduceNeg, Int.reduceEq, Int.reduceNe, reduceIte, jf_in, pFc_in, aGc_V, aLc_in, cKc_in, nA_in, jm_s1, jm_s2, jm_p1, jm_p2, ckR_is, ckr_is, rR_is, ckW_is, cR_is, obi, oAL_0, oAL_1, oAL_2, oALs_0, oALs_1, oALs_2, h1, e3, Int.zero_add]
theorem l_grow (h1 : jm h a = some (43, 3, oAL mc e cap)) (h2 : jm h e = some (1040, cap, g)) (hm : je h 47 = .ref q0) (ha : a < h.1) (he : e < h.1) (c0 : 0 < cap) (hc : cap < 100000) : M (d + 5) 43006 [.ref a] h = some (.inl (some (.ref h.1)), jset (jset (jpush h (1040, alCap cap, fun _ => .null)) h.1 (1040, alCap cap, jcpy g (fun _ => .null) 0 0 cap)) a (43, 3, oAL mc h.1 cap)) := by
  have hcap : ((cap : Int) + max 1 ((cap : Int) / 2)).toNat = alCap cap := by
    unfold alCap
    rw [if_neg (by omega)]
    omega
  have hmin : (min (cap : Int) ((cap : Int) + max 1 ((cap : Int) / 2))).toNat = cap := by omega
  have e1 := m_newLen (d := d + 1) (h := h) (i := cap) (j := 1) (k := (cap : Int) / 2) (by omega) (by omega) (by omega) (by omega) (by omega) (by omega)
  have e2 := a_copyOf (d := d) (m := (cap : Int) + max 1 ((cap : Int) / 2)) h2 (Or.inl rfl) he hm hc (by omega) (by omega)
  rw [hcap, hmin] at e2
  have e3 : M (d + 4) 43007 [.ref a, .int (zI ((cap : Int) + 1))] h = some (.inl (some (.ref h.1)), jset (jset (jpush h (1040, alCap cap, fun _ => .null)) h.1 (1040, alCap cap, jcpy g (fun _ => .null) 0 0 cap)) a (43, 3, oAL mc h.1 cap)) := by
    rw [X43007 h (jrecv_in h1 rfl), E43007_0]
    simp (disch := first | assumption | omega | decide | exact okF_i | exact okF_r | exact okF_n | exact okF_j | rfl) only [jc_ref, rI_int, rR_ref, rR_null, rJ_long, ckR_ref, ckR_null, ckr_ref, ckr_null, ckW_int, ckW_ref, ckW_null, cI_ok, cR_ok, cR_null, cV_ok, cJ_ok, qH_eq, qD_in, aG_ref, aS_ref, aL_ref, pF_ref, cK_ref, cK_null, zI_lit, zJ_lit, zI_add, zI_sub, zI_mul, zI_neg, zI_eq, zI_lt, zI_le, Int.reduceLT, Int.reduceLE, Int.reduceAdd, Int.reduceSub, Int.reduceMul, Int.reduceNeg, Int.reduceEq, Int.reduceNe, reduceIte, jf_in, pFc_in, aGc_V, aLc_in, cKc_in, nA_in, jm_s1, jm_s2, jm_p1, jm_p2, ckR_is, ckr_is, rR_is, ckW_is, cR_is, obi, oAL_0, oAL_1, oAL_2, oALs_0, oALs_1, oALs_2, h1, h2]
    rw [if_pos (by omega), E43007_20]
    simp (disch := first | assumption | omega | decide | exact okF_i | exact okF_r | exact okF_n | exact okF_j | rfl) only [jc_ref, rI_int, rR_ref, rR_null, rJ_long, ckR_ref, ckR_null, ckr_ref, ckr_null, ckW_int, ckW_ref, ckW_null, cI_ok, cR_ok, cR_null, cV_ok, cJ_ok, qH_eq, qD_in, aG_ref, aS_ref, aL_ref, pF_ref, cK_ref, cK_null, zI_lit, zJ_lit, zI_add, zI_sub, zI_mul, zI_neg, zI_eq, zI_lt, zI_le, Int.reduceLT, Int.reduceLE, Int.reduceAdd, Int.reduceSub, Int.reduceMul, Int.reduceNeg, Int.reduceEq, Int.reduceNe, reduceIte, jf_in, pFc_in, aGc_V, aLc_in, cKc_in, nA_in, jm_s1, jm_s2, jm_p1, jm_p2, ckR_is, ckr_is, rR_is, ckW_is, cR_is, obi, oAL_0, oAL_1, oAL_2, oALs_0, oALs_1, oALs_2, sar1, show (cap : Int) + 1 - cap = 1 by omega, e1]
    simp (disch := first | assumption | omega | decide | exact okF_i | exact okF_r | exact okF_n | exact okF_j | rfl) only [jc_ref, rI_int, rR_ref, rR_null, rJ_long, ckR_ref, ckR_null, ckr_ref, ckr_null, ckW_int, ckW_ref, ckW_null, cI_ok, cR_ok, cR_null, cV_ok, cJ_ok, qH_eq, qD_in, aG_ref, aS_ref, aL_ref, pF_ref, cK_ref, cK_null, zI_lit, zJ_lit, zI_add, zI_sub, zI_mul, zI_neg, zI_eq, zI_lt, zI_le, Int.reduceLT, Int.reduceLE, Int.reduceAdd, Int.reduceSub, Int.reduceMul, Int.reduceNeg, Int.reduceEq, Int.reduceNe, reduceIte, jf_in, pFc_in, aGc_V, aLc_in, cKc_in, nA_in, jm_s1, jm_s2, jm_p1, jm_p2, ckR_is, ckr_is, rR_is, ckW_is, cR_is, obi, oAL_0, oAL_1, oAL_2, oALs_0, oALs_1, oALs_2, h1, e2, jm_s2, jm_p2]
  rw [X43006 h (jrecv_in h1 rfl), E43006_0]
  simp (disch := first | assumption | omega | decide | exact okF_i | exact okF_r | exact okF_n | exact okF_j | rfl) only [jc_ref, rI_int, rR_ref, rR_null, rJ_long, ckR_ref, ckR_null, ckr_ref, ckr_null, ckW_int, ckW_ref, ckW_null, cI_ok, cR_ok, cR_null, cV_ok, cJ_ok, qH_eq, qD_in, aG_ref, aS_ref, aL_ref, pF_ref, cK_ref, cK_null, zI_lit, zJ_lit, zI_add, zI_sub, zI_mul, zI_neg, zI_eq, zI_lt, zI_le, Int.reduceLT, Int.reduceLE, Int.reduceAdd, Int.reduceSub, Int.reduceMul, Int.reduceNeg, Int.reduceEq, Int.reduceNe, reduceIte, jf_in, pFc_in, aGc_V, aLc_in, cKc_in, nA_in, jm_s1, jm_s2, jm_p1, jm_p2, ckR_is, ckr_is, rR_is, ckW_is, cR_is, obi, oAL_0, oAL_1, oAL_2, oALs_0, oALs_1, oALs_2, h1, e3]
end
