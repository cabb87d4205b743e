/-! ArrayList's iterator -/
-- jc_ref, rI_int, rR_ref, rR_null, rJ_long, ckR_ref, ckR_null, ckr_ref, ckr_null, ckW_int, ckW_ref, ckW_null, cI_ok, cR_ok, cR_null, cV_ok, cJ_ok, qH_eq, qD_in, aG_ref, aS_ref, aL_ref, pF_ref, cK_ref, cK_null, zI_lit, zJ_lit, zI_add, zI_sub, zI_mul, zI_neg, zI_eq, zI_lt, zI_le, Int.reduceLT, Int.reduceLE, Int.reduceAdd, Int.reduceSub, Int.reduceMul, Int.reduceNeg, Int.reduceEq, Int.reduceNe, reduceIte, jf_in, pFc_in, aGc_V, aLc_in, cKc_in, nA_in, jm_s1, jm_s2, jm_p1, jm_p2, ckR_is, ckr_is, rR_is, ckW_is, cR_is, obi, oAL_0, oAL_1, oAL_2, oALs_0, oALs_1, oALs_2 = jc_ref, rI_int, rR_ref, rR_null, rJ_long, ckR_ref, ckR_null, ckr_ref, ckr_null, ckW_int, ckW_ref, ckW_null, cI_ok, cR_ok, cR_null, cV_ok, cJ_ok, qH_eq, qD_in, aG_ref, aS_ref, aL_ref, pF_ref, cK_ref, cK_null, zI_lit, zJ_lit, zI_add, zI_sub, zI_mul, zI_neg, zI_eq, zI_lt, zI_le, Int.reduceLT, Int.reduceLE, Int.reduceAdd, Int.reduceSub, Int.reduceMul, Int.reduceNeg, Int.reduceEq, Int.reduceNe, reduceIte, jf_in, pFc_in, aGc_V, aLc_in, cKc_in, nA_in, jm_s1, jm_s2, jm_p1, jm_p2, ckR_is, ckr_is, rR_is, ckW_is, cR_is, obi, oAL_0, oAL_1, oAL_2, oALs_0, oALs_1, oALs_2
def oIT (i lr mc : Int32) (a : Nat) : Nat → Value := jL [.int i, .int lr, .int mc, .ref a]
section
variable {i lr mc x : Int32} {a : Nat}
theorem oIT_0 : oIT i lr mc a 0 = .int i := rfl
theorem oIT_1 : oIT i lr mc a 1 = .int lr := rfl
theorem oIT_2 : oIT i lr mc a 2 = .int mc := rfl
theorem oIT_3 : oIT i lr mc a 3 = .ref a := rfl
theorem oITs_0 : ju (oIT i lr mc a) 0 (.int x) = oIT x lr mc a := (ju_jL (Nat.le_of_ble_eq_true rfl)).trans rfl
theorem oITs_1 : ju (oIT i lr mc a) 1 (.int x) = oIT i x mc a := (ju_jL (Nat.le_of_ble_eq_true rfl)).trans rfl
theorem oITs_2 : ju (oIT i lr mc a) 2 (.int x) = oIT i lr x a := (ju_jL (Nat.le_of_ble_eq_true rfl)).trans rfl
theorem oITs_3 : ju (jL [.int 0, .int 0, .int 0, .null]) 3 (.ref a) = oIT 0 0 0 a := (ju_jL (Nat.le_of_ble_eq_true rfl)).trans rfl
end
-- jc_ref, rI_int, rR_ref, rR_null, rJ_long, ckR_ref, ckR_null, ckr_ref, ckr_null, ckW_int, ckW_ref, ckW_null, cI_ok, cR_ok, cR_null, cV_ok, cJ_ok, qH_eq, qD_in, aG_ref, aS_ref, aL_ref, pF_ref, cK_ref, cK_null, zI_lit, zJ_lit, zI_add, zI_sub, zI_mul, zI_neg, zI_eq, zI_lt, zI_le, Int.reduceLT, Int.reduceLE, Int.reduceAdd, Int.reduceSub, Int.reduceMul, Int.reduceNeg, Int.reduceEq, Int.reduceNe, reduceIte, jf_in, pFc_in, aGc_V, aLc_in, cKc_in, nA_in, jm_s1, jm_s2, jm_p1, jm_p2, ckR_is, ckr_is, rR_is, ckW_is, cR_is, obi, oAL_0, oAL_1, oAL_2, oALs_0, oALs_1, oALs_2, oIT_0, oIT_1, oIT_2, oIT_3, oITs_0, oITs_1, oITs_2 = jc_ref, rI_int, rR_ref, rR_null, rJ_long, ckR_ref, ckR_null, ckr_ref, ckr_null, ckW_int, ckW_ref, ckW_null, cI_ok, cR_ok, cR_null, cV_ok, cJ_ok, qH_eq, qD_in, aG_ref, aS_ref, aL_ref, pF_ref, cK_ref, cK_null, zI_lit, zJ_lit, zI_add, zI_sub, zI_mul, zI_neg, zI_eq, zI_lt, zI_le, Int.reduceLT, Int.reduceLE, Int.reduceAdd, Int.reduceSub, Int.reduceMul, Int.reduceNeg, Int.reduceEq, Int.reduceNe, reduceIte, jf_in, pFc_in, aGc_V, aLc_in, cKc_in, nA_in, jm_s1, jm_s2, jm_p1, jm_p2, ckR_is, ckr_is, rR_is, ckW_is, cR_is, obi, oAL_0, oAL_1, oAL_2, oALs_0, oALs_1, oALs_2, oIT_0, oIT_1, oIT_2, oIT_3, oITs_0, oITs_1, oITs_2
theorem wIt_inv {H : AH} {q : Nat} {κ : Int → Int → Int32 → Nat → Rz} {r : Out × AH} (h : wIt H q κ = some r) : ∃ i lr m a, jm H q = some (67, 4, oIT (zI i) (zI lr) m a) ∧ 0 ≤ i ∧ i < 100000 ∧ -1 ≤ lr ∧ lr < 100000 ∧ κ i lr m a = some r := by
  obtain ⟨⟨i, lr, m, a⟩, ⟨h1, h2, h3, h4, h5⟩, e⟩ := wX_inv h
  exact ⟨i, lr, m, a, h1, h2, h3, h4, h5, e⟩
section
variable {d : Nat} {h : AH} {a e q cap : Nat} {g : Nat → Value} {mc : Int32} {n i lr : Int}
theorem it_check (hq : jm h q = some (67, 4, oIT (zI i) (zI lr) mc a)) (h1 : jm h a = some (43, 3, oAL mc e n)) : M (d + 1) 67000 [.ref q] h = some (.inl none, h) := by
  rw [X67000 h (jrecv_in hq rfl), E67000_0]
  simp (disch := first | assumption | omega | decide | exact okF_i | exact okF_r | exact okF_n | exact okF_j | rfl) only [jc_ref, rI_int, rR_ref, rR_null, rJ_long, ckR_ref, ckR_null, ckr_ref, ckr_null, ckW_int, ckW_ref, ckW_null, cI_ok, cR_ok, cR_null, cV_ok, cJ_ok, qH_eq, qD_in, aG_ref, aS_ref, aL_ref, pF_ref, cK_ref, cK_null, zI_lit, zJ_lit, zI_add, zI_sub, zI_mul, zI_neg, zI_eq, zI_lt, zI_le, Int.reduceLT, Int.reduceLE, Int.reduceAdd, Int.reduceSub, Int.reduceMul, Int.reduceNeg, Int.reduceEq, Int.reduceNe, reduceIte, jf_in, pFc_in, aGc_V, aLc_in, cKc_in, nA_in, jm_s1, jm_s2, jm_p1, jm_p2, ckR_is, ckr_is, rR_is, ckW_is, cR_is, obi, oAL_0, oAL_1, oAL_2, oALs_0, oALs_1, oALs_2, oIT_0, oIT_1, oIT_2, oIT_3, oITs_0, oITs_1, oITs_2, hq, h1, if_true]
theorem l_rem (h1 : jm h a = some (43, 3, oAL mc e n)) (h2 : jm h e = some (1040, cap, g)) (i0 : 0 ≤ i) (i1 : i < n) (hn : n ≤ cap) (hc : cap < 100000) (hg : isR (g i.toNat) = true) : ∃ h3 g3, M (d + 3) 43015 [.ref a, .int (zI i)] h = some (.inl (some (g i.toNat)), h3) ∧ Only h h3 (fun q => q = a ∨ q = e) ∧ jm h3 a = some (43, 3, oAL (mc + zI 1) e (n - 1)) ∧ jm h3 e = some (1040, cap, g3) ∧ ∀ k, g3 k = if k = (n - 1).toNat then .null else if i.toNat ≤ k ∧ k < (n - 1).toNat then g (k + 1) else g k := by
  have nea : e ≠ a := by
    rintro rfl
    rw [h1] at h2; cases h2
  have e1 := ob_check (d := d) (h := h) i0 i1 (by omega)
  have fin : ∀ h3, M (d + 2) 43004 [.ref a, .ref e, .int (zI i)] h = some (.inl none, h3) → M (d + 3) 43015 [.ref a, .int (zI i)] h = some (.inl (some (g i.toNat)), h3) := by
    intro h3 hf
    rw [X43015 h (jrecv_in h1 rfl), E43015_0]
    simp (disch := first | assumption | omega | decide | exact okF_i | exact okF_r | exact okF_n | exact okF_j | rfl) only [jc_ref, rI_int, rR_ref, rR_null, rJ_long, ckR_ref, ckR_null, ckr_ref, ckr_null, ckW_int, ckW_ref, ckW_null, cI_ok, cR_ok, cR_null, cV_ok, cJ_ok, qH_eq, qD_in, aG_ref, aS_ref, aL_ref, pF_ref, cK_ref, cK_null, zI_lit, zJ_lit, zI_add, zI_sub, zI_mul, zI_neg, zI_eq, zI_lt, zI_le, Int.reduceLT, Int.reduceLE, Int.reduceAdd, Int.reduceSub, Int.reduceMul, Int.reduceNeg, Int.reduceEq, Int.reduceNe, reduceIte, jf_in, pFc_in, aGc_V, aLc_in, cKc_in, nA_in, jm_s1, jm_s2, jm_p1, jm_p2, ckR_is, ckr_is, rR_is, ckW_is, cR_is, obi, oAL_0, oAL_1, oAL_2, oALs_0, oALs_1, oALs_2, h1, e1, h2, hf]
  have e2 : jm (jset h a (43, 3, oAL (mc + zI 1) e n)) e = some (1040, cap, g) := by rw [jm_s2 nea]; exact h2
  by_cases hi : n - 1 ≤ i
  · refine ⟨jset (jset h a (43, 3, oAL (mc + zI 1) e (n - 1))) e (1040, cap, ju g (n - 1).toNat .null), _, fin _ ?_, ⟨rfl, rfl, rfl, fun q hq => ?_⟩, ?_, jm_s1, fun k => ?_⟩
    · have e3 : jm (jset h a (43, 3, oAL (mc + zI 1) e (n - 1))) e = some (1040, cap, g) := by rw [jm_s2 nea]; exact h2
      have e4 := fun (κ : AH → Rz) (u : Ph κ) => aSr_in (κ := κ) (u := u) (v := .null) (i := n - 1) e3 (Or.inl rfl) (by omega) (by omega) (by omega)
      rw [X43004 h rfl (jrecv_in h1 rfl), E43004_0]
      simp (disch := first | assumption | omega | decide | exact okF_i | exact okF_r | exact okF_n | exact okF_j | rfl) only [jc_ref, rI_int, rR_ref, rR_null, rJ_long, ckR_ref, ckR_null, ckr_ref, ckr_null, ckW_int, ckW_ref, ckW_null, cI_ok, cR_ok, cR_null, cV_ok, cJ_ok, qH_eq, qD_in, aG_ref, aS_ref, aL_ref, pF_ref, cK_ref, cK_null, zI_lit, zJ_lit, zI_add, zI_sub, zI_mul, zI_neg, zI_eq, zI_lt, zI_le, Int.reduceLT, Int.reduceLE, Int.reduceAdd, Int.reduceSub, Int.reduceMul, Int.reduceNeg, Int.reduceEq, Int.reduceNe, reduceIte, jf_in, pFc_in, aGc_V, aLc_in, cKc_in, nA_in, jm_s1, jm_s2, jm_p1, jm_p2, ckR_is, ckr_is, rR_is, ckW_is, cR_is, obi, oAL_0, oAL_1, oAL_2, oALs_0, oALs_1, oALs_2, h1, jset_jset, e4]
      rw [if_pos hi]
    · rw [jm_s2 (fun x => hq (Or.inr x)), jm_s2 (fun x => hq (Or.inl x))]
    · rw [jm_s2 (Ne.symm nea), jm_s1]
    · by_cases hk : k = (n - 1).toNat
      · subst hk; rw [ju_self, if_pos rfl]
      · rw [ju_ne hk, if_neg hk, if_neg (by omega)]
  · refine ⟨jset (jset (jset (jset h a (43, 3, oAL (mc + zI 1) e n)) e (1040, cap, jcpy g g (i + 1).toNat i.toNat (n - 1 - i).toNat)) a (43, 3, oAL (mc + zI 1) e (n - 1))) e (1040, cap, ju (jcpy g g (i + 1).toNat i.toNat (n - 1 - i).toNat) (n - 1).toNat .null), _, fin _ ?_, ⟨rfl, rfl, rfl, fun q hq => ?_⟩, ?_, jm_s1, fun k => ?_⟩
    · have e5 := acp (d := d) (sp := i + 1) (dp := i) (k := n - 1 - i) e2 e2 rfl (by omega) i0 (by omega) (by omega) (by omega) (by omega) (by omega)
      have e3 : jm (jset (jset (jset h a (43, 3, oAL (mc + zI 1) e n)) e (1040, cap, jcpy g g (i + 1).toNat i.toNat (n - 1 - i).toNat)) a (43, 3, oAL (mc + zI 1) e (n - 1))) e = some (1040, cap, jcpy g g (i + 1).toNat i.toNat (n - 1 - i).toNat) := by rw [jm_s2 nea, jm_s1]
      have e4 := fun (κ : AH → Rz) (u : Ph κ) => aSr_in (κ := κ) (u := u) (v := .null) (i := n - 1) e3 (Or.inl rfl) (by omega) (by omega) (by omega)
      have e6 : jm (jset (jset h a (43, 3, oAL (mc + zI 1) e n)) e (1040, cap, jcpy g g (i + 1).toNat i.toNat (n - 1 - i).toNat)) a = some (43, 3, oAL (mc + zI 1) e n) := by rw [jm_s2 (Ne.symm nea), jm_s1]
      rw [X43004 h rfl (jrecv_in h1 rfl), E43004_0]
      simp (disch := first | assumption | omega | decide | exact okF_i | exact okF_r | exact okF_n | exact okF_j | rfl) only [jc_ref, rI_int, rR_ref, rR_null, rJ_long, ckR_ref, ckR_null, ckr_ref, ckr_null, ckW_int, ckW_ref, ckW_null, cI_ok, cR_ok, cR_null, cV_ok, cJ_ok, qH_eq, qD_in, aG_ref, aS_ref, aL_ref, pF_ref, cK_ref, cK_null, zI_lit, zJ_lit, zI_add, zI_sub, zI_mul, zI_neg, zI_eq, zI_lt, zI_le, Int.reduceLT, Int.reduceLE, Int.reduceAdd, Int.reduceSub, Int.reduceMul, Int.reduceNeg, Int.reduceEq, Int.reduceNe, reduceIte, jf_in, pFc_in, aGc_V, aLc_in, cKc_in, nA_in, jm_s1, jm_s2, jm_p1, jm_p2, ckR_is, ckr_is, rR_is, ckW_is, cR_is, obi, oAL_0, oAL_1, oAL_2, oALs_0, oALs_1, oALs_2, h1, e5, e6, e4]
      rw [if_neg hi]
    · rw [jm_s2 (fun x => hq (Or.inr x)), jm_s2 (fun x => hq (Or.inl x)), jm_s2 (fun x => hq (Or.inr x)), jm_s2 (fun x => hq (Or.inl x))]
    · rw [jm_s2 (Ne.symm nea), jm_s1]
    · by_cases hk : k = (n - 1).toNat
      · subst hk; rw [ju_self, if_pos rfl]
      · rw [ju_ne hk, if_neg hk]
        unfold jcpy
        by_cases hk2 : i.toNat ≤ k ∧ k < (n - 1).toNat
        · rw [if_pos hk2, if_pos (by omega)]
          rw [show (i + 1).toNat + (k - i.toNat) = k + 1 by omega]
        · rw [if_neg hk2, if_neg (by omega)]
end
section
variable {Fo : Nat → Option Cl} {h H : AH} {d : Nat} {as : List Value}
theorem pm_iter (R : RX Fo h H) : SimR Fo (pALiter as H) (M (d + 12) 43011 as h) := by
  intro o H2 e
  unfold pALiter at e
  split at e
  · rename_i a
    obtain ⟨cap, mc, l, m, e⟩ := wAL_inv e
    have R0 := R
    have hn := R.hn
    obtain ⟨W, R⟩ := R
    have ha := (R.2.1 _ _ m).1
    obtain ⟨hl, hr, e0, g, h1, h2⟩ := R.al m
    have h1 : jm h a = some (43, 3, oAL mc e0 l.length) := h1
    cases e
    have hx : M (d + 11) 67900 [.ref h.1, .ref a] (jpush h (67, 4, jL [.int 0, .int 0, .int 0, .null])) = some (.inl none, jpush h (67, 4, oIT 0 (-1) mc a)) := by
      have hp : jm (jpush h (67, 4, jL [.int 0, .int 0, .int 0, .null])) h.1 = some (67, 4, jL [.int 0, .int 0, .int 0, .null]) := jm_p1
      rw [X67900 _ rfl (jrecv_in hp rfl), E67900_0]
      have j1 : ∀ c2 : Cl, c2.2.1 = 4 → jset (jpush h (67, 4, jL [.int 0, .int 0, .int 0, .null])) h.1 c2 = jpush h c2 := fun c2 hc => jset_jpush hc.symm
      have j2 : ∀ (c c2 : Cl), c.2.1 = c2.2.1 → jset (jpush h c) h.1 c2 = jpush h c2 := fun c c2 hc => jset_jpush hc
      simp (disch := first | assumption | omega | decide | exact okF_i | exact okF_r | exact okF_n | exact okF_j | rfl) only [jc_ref, rI_int, rR_ref, rR_null, rJ_long, ckR_ref, ckR_null, ckr_ref, ckr_null, ckW_int, ckW_ref, ckW_null, cI_ok, cR_ok, cR_null, cV_ok, cJ_ok, qH_eq, qD_in, aG_ref, aS_ref, aL_ref, pF_ref, cK_ref, cK_null, jf_in, pFc_in, jm_p1, obi, oITs_3, j2, oIT_3, oITs_1, oITs_2, jm_p2, h1, oAL_0]
    refine ⟨jpush h (67, 4, oIT 0 (-1) mc a), ?_, R0.push rfl⟩
    rw [X43011 (d := d + 11) h (jrecv_in h1 rfl), E43011_0]
    simp (disch := first | assumption | omega | decide | exact okF_i | exact okF_r | exact okF_n | exact okF_j | rfl) only [jc_ref, rI_int, rR_ref, rR_null, rJ_long, ckR_ref, ckR_null, ckr_ref, ckr_null, ckW_int, ckW_ref, ckW_null, cI_ok, cR_ok, cR_null, cV_ok, cJ_ok, qH_eq, qD_in, aG_ref, aS_ref, aL_ref, pF_ref, cK_ref, cK_null, hx]
    rw [hn]
  · cases e
theorem pm_ithas (R : RX Fo h H) : SimR Fo (pIThas as H) (M (d + 12) 67001 as h) := by
  intro o H2 e
  unfold pIThas at e
  split at e
  · rename_i q
    obtain ⟨i, lr, m0, a, hq, i0, i1, r0, r1, e⟩ := wIt_inv e
    obtain ⟨cap, mc, l, m, e⟩ := wAL_inv e
    obtain ⟨hc, e⟩ := wIf_inv e
    have hq2 := R.get hq rfl
    refine ⟨h, ?_, ?_⟩
    · obtain ⟨W, R⟩ := R
      obtain ⟨hl, hr, e0, g, h1, h2⟩ := R.al m
      have h1 : jm h a = some (43, 3, oAL mc e0 l.length) := h1
      cases e
      rw [X67001 (d := d + 11) h (jrecv_in hq2 rfl), E67001_0]
      simp (disch := first | assumption | omega | decide | exact okF_i | exact okF_r | exact okF_n | exact okF_j | rfl) only [jc_ref, rI_int, rR_ref, rR_null, rJ_long, ckR_ref, ckR_null, ckr_ref, ckr_null, ckW_int, ckW_ref, ckW_null, cI_ok, cR_ok, cR_null, cV_ok, cJ_ok, qH_eq, qD_in, aG_ref, aS_ref, aL_ref, pF_ref, cK_ref, cK_null, zI_lit, zJ_lit, zI_add, zI_sub, zI_mul, zI_neg, zI_eq, zI_lt, zI_le, Int.reduceLT, Int.reduceLE, Int.reduceAdd, Int.reduceSub, Int.reduceMul, Int.reduceNeg, Int.reduceEq, Int.reduceNe, reduceIte, jf_in, pFc_in, aGc_V, aLc_in, cKc_in, nA_in, jm_s1, jm_s2, jm_p1, jm_p2, ckR_is, ckr_is, rR_is, ckW_is, cR_is, obi, oAL_0, oAL_1, oAL_2, oALs_0, oALs_1, oALs_2, oIT_0, oIT_1, oIT_2, oIT_3, oITs_0, oITs_1, oITs_2, hq2, h1]
      by_cases hx : i = l.length
      · rw [if_pos hx, decide_eq_false (fun z => z hx)]; rfl
      · rw [if_neg hx, decide_eq_true hx]; rfl
    · cases e; exact R
  · cases e
theorem pm_itnext (R : RX Fo h H) : SimR Fo (pITnext as H) (M (d + 12) 67002 as h) := by
  intro o H2 e
  unfold pITnext at e
  split at e
  · rename_i q
    replace e := wIt_inv e
    obtain ⟨i, lr, m0, a, hq, i0, i1, r0, r1, e⟩ := e
    replace e := wAL_inv e
    obtain ⟨cap, mc, l, m, e⟩ := e
    replace e := wIf_inv e
    obtain ⟨⟨hc, hm, il⟩, e⟩ := e
    subst hm
    have hq2 := R.get hq rfl
    cases e
    refine ⟨jset h q (67, 4, oIT (zI (i + 1)) (zI i) m0 a), ?_, R.set hq rfl (Or.inl (by decide))⟩
    obtain ⟨W, R⟩ := R
    obtain ⟨hl, hr, e0, g, h1, h2⟩ := R.al m
    have h1 : jm h a = some (43, 3, oAL m0 e0 l.length) := h1
    rcases h2 with ⟨c0, -⟩ | ⟨c0, w, m2, hg⟩
    · omega
    · have hgk := hg i.toNat (by omega)
      have hi : isR (l.getD i.toNat .null) = true := hr _ (getD_in (by omega))
      have nqe : e0 ≠ q := by
        rintro rfl
        rw [hq2] at m2; cases m2
      have hck := it_check (d := d + 10) hq2 h1
      rw [X67002 (d := d + 11) h (jrecv_in hq2 rfl), E67002_0]
      simp (disch := first | assumption | omega | decide | exact okF_i | exact okF_r | exact okF_n | exact okF_j | rfl) only [jc_ref, rI_int, rR_ref, rR_null, rJ_long, ckR_ref, ckR_null, ckr_ref, ckr_null, ckW_int, ckW_ref, ckW_null, cI_ok, cR_ok, cR_null, cV_ok, cJ_ok, qH_eq, qD_in, aG_ref, aS_ref, aL_ref, pF_ref, cK_ref, cK_null, zI_lit, zJ_lit, zI_add, zI_sub, zI_mul, zI_neg, zI_eq, zI_lt, zI_le, Int.reduceLT, Int.reduceLE, Int.reduceAdd, Int.reduceSub, Int.reduceMul, Int.reduceNeg, Int.reduceEq, Int.reduceNe, reduceIte, jf_in, pFc_in, aGc_V, aLc_in, cKc_in, nA_in, jm_s1, jm_s2, jm_p1, jm_p2, ckR_is, ckr_is, rR_is, ckW_is, cR_is, obi, oAL_0, oAL_1, oAL_2, oALs_0, oALs_1, oALs_2, oIT_0, oIT_1, oIT_2, oIT_3, oITs_0, oITs_1, oITs_2, hck, hq2, h1, m2, if_pos il, if_pos (show i < (cap : Int) by omega), jset_jset, jm_s2, hgk]
  · cases e
theorem pm_itrem (R : RX Fo h H) : SimR Fo (pITrem as H) (M (d + 12) 67003 as h) := by
  intro o H2 e
  unfold pITrem at e
  split at e
  · rename_i q
    replace e := wIt_inv e
    obtain ⟨i, lr, m0, a, hq, i0, i1, r0, r1, e⟩ := e
    replace e := wAL_inv e
    obtain ⟨cap, mc, l, m, e⟩ := e
    replace e := wIf_inv e
    obtain ⟨⟨hc, hm, lr0, lrl, hqa⟩, e⟩ := e
    have haq := Ne.symm hqa
    subst hm
    have hq2 := R.get hq rfl
    cases e
    obtain ⟨W, R⟩ := R
    have hqW := (R.2.1 _ _ hq).2.1
    obtain ⟨hl, hr, e0, g, h1, h2⟩ := R.al m
    have h1 : jm h a = some (43, 3, oAL m0 e0 l.length) := h1
    rcases h2 with ⟨c0, -⟩ | ⟨c0, w, m2, hg⟩
    · omega
    · have hgk := hg lr.toNat (by omega)
      have hi : isR (g lr.toNat) = true := by rw [hgk]; exact hr _ (getD_in (by omega))
      have nqe : q ≠ e0 := by
        rintro rfl
        rw [hqW] at w; cases w
      have nea : e0 ≠ a := by
        rintro rfl
        rw [h1] at m2; cases m2
      obtain ⟨h3, g3, f1, ⟨o1, o2, o3, o4⟩, f3, f4, f5⟩ := l_rem (d := d + 8) h1 m2 lr0 lrl (by omega) hc hi
      have hq3 : jm h3 q = some (67, 4, oIT (zI i) (zI lr) m0 a) := by
        rw [o4 q (by rintro (x | x); exact hqa x; exact nqe x)]; exact hq2
      have hlen : ((l.eraseIdx lr.toNat).length : Int) = (l.length : Int) - 1 := by
        rw [List.length_eraseIdx, if_pos (by omega)]; omega
      have R3 : RX Fo h3 (jset H a (cAL cap (m0 + 1) (l.eraseIdx lr.toNat))) := R.up0 m (show 243 < 1000 by decide) rfl o1 o2 o3 (fun q hq hqa hw => o4 q (by rintro (x | x); exact hqa x; exact hw (x ▸ w))) (Or.inl ⟨_, _, _, rfl, by omega, fun v hv => hr v (List.mem_of_mem_eraseIdx hv), e0, g3, by rw [hlen]; exact f3, Or.inr ⟨c0, w, f4, fun k hk => by
        rw [f5 k, List.getD_eq_getElem?_getD, List.getElem?_eraseIdx]
        by_cases hk1 : k = ((l.length : Int) - 1).toNat
        · rw [if_pos hk1]
          by_cases hk2 : k < lr.toNat
          · omega
          · rw [if_neg hk2, List.getElem?_eq_none (by omega)]; rfl
        · rw [if_neg hk1]
          by_cases hk2 : k < lr.toNat
          · rw [if_pos hk2, if_neg (by omega), hg k hk, List.getD_eq_getElem?_getD]
          · rw [if_neg hk2]
            by_cases hk3 : k < ((l.length : Int) - 1).toNat
            · rw [if_pos ⟨by omega, hk3⟩, hg (k + 1) (by omega), List.getD_eq_getElem?_getD]
            · rw [if_neg (by omega), hg k hk, List.getElem?_eq_none (by omega), List.getD_eq_getElem?_getD, List.getElem?_eq_none (by omega)]⟩⟩)
      have hH3 : jm (jset H a (cAL cap (m0 + 1) (l.eraseIdx lr.toNat))) q = some (67, 4, oIT (zI i) (zI lr) m0 a) := by rw [jm_s2 hqa]; exact hq
      refine ⟨jset h3 q (67, 4, oIT (zI lr) (zI (-1)) (m0 + 1) a), ?_, R3.set hH3 rfl (Or.inl (by decide))⟩
      have hck := it_check (d := d + 10) hq2 h1
      have rr : isR (g lr.toNat) = true := hi
      rw [X67003 (d := d + 11) h (jrecv_in hq2 rfl), E67003_0]
      simp (disch := first | assumption | omega | decide | exact okF_i | exact okF_r | exact okF_n | exact okF_j | rfl) only [jc_ref, rI_int, rR_ref, rR_null, rJ_long, ckR_ref, ckR_null, ckr_ref, ckr_null, ckW_int, ckW_ref, ckW_null, cI_ok, cR_ok, cR_null, cV_ok, cJ_ok, qH_eq, qD_in, aG_ref, aS_ref, aL_ref, pF_ref, cK_ref, cK_null, zI_lit, zJ_lit, zI_add, zI_sub, zI_mul, zI_neg, zI_eq, zI_lt, zI_le, Int.reduceLT, Int.reduceLE, Int.reduceAdd, Int.reduceSub, Int.reduceMul, Int.reduceNeg, Int.reduceEq, Int.reduceNe, reduceIte, jf_in, pFc_in, aGc_V, aLc_in, cKc_in, nA_in, jm_s1, jm_s2, jm_p1, jm_p2, ckR_is, ckr_is, rR_is, ckW_is, cR_is, obi, oAL_0, oAL_1, oAL_2, oALs_0, oALs_1, oALs_2, oIT_0, oIT_1, oIT_2, oIT_3, oITs_0, oITs_1, oITs_2, hq2, if_pos lr0, hck, f1]
      cases hgv : g lr.toNat with
      | null => simp (disch := first | assumption | omega | decide | exact okF_i | exact okF_r | exact okF_n | exact okF_j | rfl) only [jc_ref, rI_int, rR_ref, rR_null, rJ_long, ckR_ref, ckR_null, ckr_ref, ckr_null, ckW_int, ckW_ref, ckW_null, cI_ok, cR_ok, cR_null, cV_ok, cJ_ok, qH_eq, qD_in, aG_ref, aS_ref, aL_ref, pF_ref, cK_ref, cK_null, zI_lit, zJ_lit, zI_add, zI_sub, zI_mul, zI_neg, zI_eq, zI_lt, zI_le, Int.reduceLT, Int.reduceLE, Int.reduceAdd, Int.reduceSub, Int.reduceMul, Int.reduceNeg, Int.reduceEq, Int.reduceNe, reduceIte, jf_in, pFc_in, aGc_V, aLc_in, cKc_in, nA_in, jm_s1, jm_s2, jm_p1, jm_p2, ckR_is, ckr_is, rR_is, ckW_is, cR_is, obi, oAL_0, oAL_1, oAL_2, oALs_0, oALs_1, oALs_2, oIT_0, oIT_1, oIT_2, oIT_3, oITs_0, oITs_1, oITs_2, xR_null, hq3, jset_jset, jm_s2, f3]
      | ref b => simp (disch := first | assumption | omega | decide | exact okF_i | exact okF_r | exact okF_n | exact okF_j | rfl) only [jc_ref, rI_int, rR_ref, rR_null, rJ_long, ckR_ref, ckR_null, ckr_ref, ckr_null, ckW_int, ckW_ref, ckW_null, cI_ok, cR_ok, cR_null, cV_ok, cJ_ok, qH_eq, qD_in, aG_ref, aS_ref, aL_ref, pF_ref, cK_ref, cK_null, zI_lit, zJ_lit, zI_add, zI_sub, zI_mul, zI_neg, zI_eq, zI_lt, zI_le, Int.reduceLT, Int.reduceLE, Int.reduceAdd, Int.reduceSub, Int.reduceMul, Int.reduceNeg, Int.reduceEq, Int.reduceNe, reduceIte, jf_in, pFc_in, aGc_V, aLc_in, cKc_in, nA_in, jm_s1, jm_s2, jm_p1, jm_p2, ckR_is, ckr_is, rR_is, ckW_is, cR_is, obi, oAL_0, oAL_1, oAL_2, oALs_0, oALs_1, oALs_2, oIT_0, oIT_1, oIT_2, oIT_3, oITs_0, oITs_1, oITs_2, xR_ok, hq3, jset_jset, jm_s2, f3]
      | _ => rw [hgv] at rr; cases rr
  · cases e
end
