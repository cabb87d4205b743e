/-! ArrayDeque on its cells -/
def oDQ (e : Nat) (hd tl : Int) : Nat → Value := jL [.ref e, .int (zI hd), .int (zI tl)]
def nDQ : Nat → Value := jL [.null, .int 0, .int 0]
section
variable {e q : Nat} {u v z : Int}
theorem oDQ_0 : oDQ e u v 0 = .ref e := rfl
theorem oDQ_1 : oDQ e u v 1 = .int (zI u) := rfl
theorem oDQ_2 : oDQ e u v 2 = .int (zI v) := rfl
theorem oDQs_0 : ju (oDQ e u v) 0 (.ref q) = oDQ q u v := (ju_jL (Nat.le_of_ble_eq_true rfl)).trans rfl
theorem oDQs_1 : ju (oDQ e u v) 1 (.int (zI z)) = oDQ e z v := (ju_jL (Nat.le_of_ble_eq_true rfl)).trans rfl
theorem oDQs_2 : ju (oDQ e u v) 2 (.int (zI z)) = oDQ e u z := (ju_jL (Nat.le_of_ble_eq_true rfl)).trans rfl
theorem nDQs_0 : ju nDQ 0 (.ref q) = oDQ q 0 0 := (ju_jL (Nat.le_of_ble_eq_true rfl)).trans rfl
end
-- jc_ref, rI_int, rR_ref, rR_null, rJ_long, ckR_ref, ckR_null, ckr_ref, ckr_null, ckW_int, ckW_ref, ckW_null, cI_ok, cR_ok, cR_null, cV_ok, cJ_ok, qH_eq, qD_in, aG_ref, aS_ref, aL_ref, pF_ref, cK_ref, cK_null, zI_lit, zJ_lit, zI_add, zI_sub, zI_mul, zI_neg, zI_eq, zI_lt, zI_le, Int.reduceLT, Int.reduceLE, Int.reduceAdd, Int.reduceSub, Int.reduceMul, Int.reduceNeg, Int.reduceEq, Int.reduceNe, reduceIte, jf_in, pFc_in, aGc_V, aLc_in, cKc_in, nA_in, jm_s1, jm_s2, jm_p1, jm_p2, ckR_is, ckr_is, rR_is, ckW_is, cR_is, obi, oDQ_0, oDQ_1, oDQ_2, oDQs_0, oDQs_1, oDQs_2, nDQs_0 = jc_ref, rI_int, rR_ref, rR_null, rJ_long, ckR_ref, ckR_null, ckr_ref, ckr_null, ckW_int, ckW_ref, ckW_null, cI_ok, cR_ok, cR_null, cV_ok, cJ_ok, qH_eq, qD_in, aG_ref, aS_ref, aL_ref, pF_ref, cK_ref, cK_null, zI_lit, zJ_lit, zI_add, zI_sub, zI_mul, zI_neg, zI_eq, zI_lt, zI_le, Int.reduceLT, Int.reduceLE, Int.reduceAdd, Int.reduceSub, Int.reduceMul, Int.reduceNeg, Int.reduceEq, Int.reduceNe, reduceIte, jf_in, pFc_in, aGc_V, aLc_in, cKc_in, nA_in, jm_s1, jm_s2, jm_p1, jm_p2, ckR_is, ckr_is, rR_is, ckW_is, cR_is, obi, oDQ_0, oDQ_1, oDQ_2, oDQs_0, oDQs_1, oDQs_2, nDQs_0
theorem md {hd k cap : Nat} (h : hd < cap) (hk : k ≤ cap) : (hd + k) % cap = if hd + k < cap then hd + k else hd + k - cap := by
  by_cases c : hd + k < cap
  · rw [if_pos c, Nat.mod_eq_of_lt c]
  · rw [if_neg c, Nat.mod_eq_sub_mod (by omega), Nat.mod_eq_of_lt (by omega)]
section
variable {d : Nat} {h : AH} {a e cap q0 : Nat} {g : Nat → Value} {hd tl i m : Int} {v : Value}
theorem q_inc (i0 : 0 ≤ i) (i1 : i < m) (m1 : m < 2147483648) : M (d + 1) 63005 [.int (zI i), .int (zI m)] h = some (.inl (some (.int (zI (if i + 1 < m then i + 1 else 0)))), h) := by
  rw [X63005 h, E63005_0]
  simp (disch := omega) only [zI_lit, zJ_lit, zI_add, zI_sub, zI_mul, zI_neg, zI_eq, zI_lt, zI_le, Int.reduceLT, Int.reduceLE, Int.reduceAdd, Int.reduceSub, Int.reduceMul, Int.reduceNeg, Int.reduceEq, Int.reduceNe, reduceIte]
  by_cases c : i + 1 < m
  · rw [if_pos c, if_pos c]
  · rw [if_neg c, if_neg c]
theorem q_new (h1 : jm h a = some (63, 3, nDQ)) (ha : a < h.1) : M (d + 3) 63900 [.ref a] h = some (.inl none, jset (jpush h (1040, 17, fun _ => .null)) a (63, 3, oDQ h.1 0 0)) := by
  have e1 : M (d + 2) 41900 [.ref a] h = some (.inl none, h) := by
    rw [X41900 h (jrecv_in h1 rfl), E41900_0]
    simp (disch := first | assumption | omega | decide | exact okF_i | exact okF_r | exact okF_n | exact okF_j | rfl) only [jc_ref, rI_int, rR_ref, rR_null, rJ_long, ckR_ref, ckR_null, ckr_ref, ckr_null, ckW_int, ckW_ref, ckW_null, cI_ok, cR_ok, cR_null, cV_ok, cJ_ok, qH_eq, qD_in, aG_ref, aS_ref, aL_ref, pF_ref, cK_ref, cK_null, zI_lit, zJ_lit, zI_add, zI_sub, zI_mul, zI_neg, zI_eq, zI_lt, zI_le, Int.reduceLT, Int.reduceLE, Int.reduceAdd, Int.reduceSub, Int.reduceMul, Int.reduceNeg, Int.reduceEq, Int.reduceNe, reduceIte, jf_in, pFc_in, aGc_V, aLc_in, cKc_in, nA_in, jm_s1, jm_s2, jm_p1, jm_p2, ckR_is, ckr_is, rR_is, ckW_is, cR_is, obi]
  have e2 : jm (jpush h (1040, 17, fun _ => .null)) a = some (63, 3, nDQ) := by rw [jm_p2 (Nat.ne_of_lt ha)]; exact h1
  rw [X63900 h (jrecv_in h1 rfl), E63900_0]
  simp (disch := first | assumption | omega | decide | exact okF_i | exact okF_r | exact okF_n | exact okF_j | rfl) only [jc_ref, rI_int, rR_ref, rR_null, rJ_long, ckR_ref, ckR_null, ckr_ref, ckr_null, ckW_int, ckW_ref, ckW_null, cI_ok, cR_ok, cR_null, cV_ok, cJ_ok, qH_eq, qD_in, aG_ref, aS_ref, aL_ref, pF_ref, cK_ref, cK_null, zI_lit, zJ_lit, zI_add, zI_sub, zI_mul, zI_neg, zI_eq, zI_lt, zI_le, Int.reduceLT, Int.reduceLE, Int.reduceAdd, Int.reduceSub, Int.reduceMul, Int.reduceNeg, Int.reduceEq, Int.reduceNe, reduceIte, jf_in, pFc_in, aGc_V, aLc_in, cKc_in, nA_in, jm_s1, jm_s2, jm_p1, jm_p2, ckR_is, ckr_is, rR_is, ckW_is, cR_is, obi, oDQ_0, oDQ_1, oDQ_2, oDQs_0, oDQs_1, oDQs_2, nDQs_0, e1, show (zI 17).toNatClampNeg = 17 by decide, e2]
theorem q_empty (h1 : jm h a = some (63, 3, oDQ e hd tl)) (r1 : 0 ≤ hd) (r2 : hd < 100000) (r3 : 0 ≤ tl) (r4 : tl < 100000) : M (d + 1) 63006 [.ref a] h = some (.inl (some (.int (if hd = tl then 1 else 0))), h) := by
  rw [X63006 h (jrecv_in h1 rfl), E63006_0]
  simp (disch := first | assumption | omega | decide | exact okF_i | exact okF_r | exact okF_n | exact okF_j | rfl) only [jc_ref, rI_int, rR_ref, rR_null, rJ_long, ckR_ref, ckR_null, ckr_ref, ckr_null, ckW_int, ckW_ref, ckW_null, cI_ok, cR_ok, cR_null, cV_ok, cJ_ok, qH_eq, qD_in, aG_ref, aS_ref, aL_ref, pF_ref, cK_ref, cK_null, zI_lit, zJ_lit, zI_add, zI_sub, zI_mul, zI_neg, zI_eq, zI_lt, zI_le, Int.reduceLT, Int.reduceLE, Int.reduceAdd, Int.reduceSub, Int.reduceMul, Int.reduceNeg, Int.reduceEq, Int.reduceNe, reduceIte, jf_in, pFc_in, aGc_V, aLc_in, cKc_in, nA_in, jm_s1, jm_s2, jm_p1, jm_p2, ckR_is, ckr_is, rR_is, ckW_is, cR_is, obi, oDQ_0, oDQ_1, oDQ_2, oDQs_0, oDQs_1, oDQs_2, nDQs_0, h1]
  by_cases c : hd = tl
  · rw [if_pos c, if_pos c]
  · rw [if_neg c, if_neg c]
theorem q_size (h1 : jm h a = some (63, 3, oDQ e hd tl)) (h2 : jm h e = some (1040, cap, g)) (r1 : 0 ≤ hd) (r2 : hd < cap) (r3 : 0 ≤ tl) (r4 : tl < cap) (hc : cap < 100000) : M (d + 2) 63011 [.ref a] h = some (.inl (some (.int (zI (if hd ≤ tl then tl - hd else tl - hd + cap)))), h) := by
  have e1 : M (d + 1) 63012 [.int (zI tl), .int (zI hd), .int (zI cap)] h = some (.inl (some (.int (zI (if hd ≤ tl then tl - hd else tl - hd + cap)))), h) := by
    rw [X63012 h, E63012_0]
    simp (disch := omega) only [zI_lit, zJ_lit, zI_add, zI_sub, zI_mul, zI_neg, zI_eq, zI_lt, zI_le, Int.reduceLT, Int.reduceLE, Int.reduceAdd, Int.reduceSub, Int.reduceMul, Int.reduceNeg, Int.reduceEq, Int.reduceNe, reduceIte]
    by_cases c : hd ≤ tl
    · rw [if_pos (by omega), if_pos c]
    · rw [if_neg (by omega), if_neg c]
  rw [X63011 h (jrecv_in h1 rfl), E63011_0]
  simp (disch := first | assumption | omega | decide | exact okF_i | exact okF_r | exact okF_n | exact okF_j | rfl) only [jc_ref, rI_int, rR_ref, rR_null, rJ_long, ckR_ref, ckR_null, ckr_ref, ckr_null, ckW_int, ckW_ref, ckW_null, cI_ok, cR_ok, cR_null, cV_ok, cJ_ok, qH_eq, qD_in, aG_ref, aS_ref, aL_ref, pF_ref, cK_ref, cK_null, zI_lit, zJ_lit, zI_add, zI_sub, zI_mul, zI_neg, zI_eq, zI_lt, zI_le, Int.reduceLT, Int.reduceLE, Int.reduceAdd, Int.reduceSub, Int.reduceMul, Int.reduceNeg, Int.reduceEq, Int.reduceNe, reduceIte, jf_in, pFc_in, aGc_V, aLc_in, cKc_in, nA_in, jm_s1, jm_s2, jm_p1, jm_p2, ckR_is, ckr_is, rR_is, ckW_is, cR_is, obi, oDQ_0, oDQ_1, oDQ_2, oDQs_0, oDQs_1, oDQs_2, nDQs_0, h1, h2, e1]
theorem q_el {b : Nat} (h2 : jm h e = some (1040, cap, g)) (i0 : 0 ≤ i) (i1 : i < cap) (hc : cap < 100000) (hg : g i.toNat = .ref b) : M (d + 1) 63003 [.ref e, .int (zI i)] h = some (.inl (some (.ref b)), h) ∧ M (d + 1) 63009 [.ref e, .int (zI i)] h = some (.inl (some (.ref b)), h) := by
  have hb : ¬ ((.ref b : Value) = .null) := fun z => by cases z
  refine ⟨?_, ?_⟩
  · rw [X63003 h rfl, E63003_0]
    simp (disch := first | assumption | omega | decide | exact okF_i | exact okF_r | exact okF_n | exact okF_j | rfl) only [jc_ref, rI_int, rR_ref, rR_null, rJ_long, ckR_ref, ckR_null, ckr_ref, ckr_null, ckW_int, ckW_ref, ckW_null, cI_ok, cR_ok, cR_null, cV_ok, cJ_ok, qH_eq, qD_in, aG_ref, aS_ref, aL_ref, pF_ref, cK_ref, cK_null, zI_lit, zJ_lit, zI_add, zI_sub, zI_mul, zI_neg, zI_eq, zI_lt, zI_le, Int.reduceLT, Int.reduceLE, Int.reduceAdd, Int.reduceSub, Int.reduceMul, Int.reduceNeg, Int.reduceEq, Int.reduceNe, reduceIte, jf_in, pFc_in, aGc_V, aLc_in, cKc_in, nA_in, jm_s1, jm_s2, jm_p1, jm_p2, ckR_is, ckr_is, rR_is, ckW_is, cR_is, obi, oDQ_0, oDQ_1, oDQ_2, oDQs_0, oDQs_1, oDQs_2, nDQs_0, h2, hg]
  · rw [X63009 h rfl, E63009_0]
    simp (disch := first | assumption | omega | decide | exact okF_i | exact okF_r | exact okF_n | exact okF_j | rfl) only [jc_ref, rI_int, rR_ref, rR_null, rJ_long, ckR_ref, ckR_null, ckr_ref, ckr_null, ckW_int, ckW_ref, ckW_null, cI_ok, cR_ok, cR_null, cV_ok, cJ_ok, qH_eq, qD_in, aG_ref, aS_ref, aL_ref, pF_ref, cK_ref, cK_null, zI_lit, zJ_lit, zI_add, zI_sub, zI_mul, zI_neg, zI_eq, zI_lt, zI_le, Int.reduceLT, Int.reduceLE, Int.reduceAdd, Int.reduceSub, Int.reduceMul, Int.reduceNeg, Int.reduceEq, Int.reduceNe, reduceIte, jf_in, pFc_in, aGc_V, aLc_in, cKc_in, nA_in, jm_s1, jm_s2, jm_p1, jm_p2, ckR_is, ckr_is, rR_is, ckW_is, cR_is, obi, oDQ_0, oDQ_1, oDQ_2, oDQs_0, oDQs_1, oDQs_2, nDQs_0, h2, hg, if_neg hb]
theorem q_poll {b : Nat} (h1 : jm h a = some (63, 3, oDQ e hd tl)) (h2 : jm h e = some (1040, cap, g)) (r1 : 0 ≤ hd) (r2 : hd < cap) (hc : cap < 100000) (hg : g hd.toNat = .ref b) : M (d + 2) 63010 [.ref a] h = some (.inl (some (.ref b)), jset (jset h e (1040, cap, ju g hd.toNat .null)) a (63, 3, oDQ e (if hd + 1 < cap then hd + 1 else 0) tl)) := by
  have nae : a ≠ e := by
    rintro rfl
    rw [h1] at h2; cases h2
  have e1 := (q_el (d := d) h2 r1 r2 hc hg).1
  have e2 := q_inc (d := d) (h := jset h e (1040, cap, ju g hd.toNat .null)) (m := cap) r1 r2 (by omega)
  have e3 := fun (κ : AH → Rz) (u : Ph κ) => aSr_in (κ := κ) (u := u) (v := .null) (i := hd) h2 (Or.inl rfl) r1 r2 (by omega)
  have hb : ¬ ((.ref b : Value) = .null) := fun z => by cases z
  rw [X63010 h (jrecv_in h1 rfl), E63010_0]
  simp (disch := first | assumption | omega | decide | exact okF_i | exact okF_r | exact okF_n | exact okF_j | rfl) only [jc_ref, rI_int, rR_ref, rR_null, rJ_long, ckR_ref, ckR_null, ckr_ref, ckr_null, ckW_int, ckW_ref, ckW_null, cI_ok, cR_ok, cR_null, cV_ok, cJ_ok, qH_eq, qD_in, aG_ref, aS_ref, aL_ref, pF_ref, cK_ref, cK_null, zI_lit, zJ_lit, zI_add, zI_sub, zI_mul, zI_neg, zI_eq, zI_lt, zI_le, Int.reduceLT, Int.reduceLE, Int.reduceAdd, Int.reduceSub, Int.reduceMul, Int.reduceNeg, Int.reduceEq, Int.reduceNe, reduceIte, jf_in, pFc_in, aGc_V, aLc_in, cKc_in, nA_in, jm_s1, jm_s2, jm_p1, jm_p2, ckR_is, ckr_is, rR_is, ckW_is, cR_is, obi, oDQ_0, oDQ_1, oDQ_2, oDQs_0, oDQs_1, oDQs_2, nDQs_0, h1, e1, if_neg hb, e3, e2, jm_s2]
theorem q_add0 (h1 : jm h a = some (63, 3, oDQ e hd tl)) (h2 : jm h e = some (1040, cap, g)) (r1 : 0 ≤ hd) (r2 : hd < cap) (r3 : 0 ≤ tl) (r4 : tl < cap) (hc : cap < 100000) (ok : okH h v) (hv : v ≠ .null) :
    M (d + 2) 63000 [.ref a, v] h = if hd = (if tl + 1 < cap then tl + 1 else 0) then (zcV (M (d + 1) 63004 [.ref a, .int (zI 1)] (jset (jset h e (1040, cap, ju g tl.toNat v)) a (63, 3, oDQ e hd (if tl + 1 < cap then tl + 1 else 0)))) (fun h11 => some (.inl none, h11)) ()) else some (.inl none, jset (jset h e (1040, cap, ju g tl.toNat v)) a (63, 3, oDQ e hd (if tl + 1 < cap then tl + 1 else 0))) := by
  have nae : a ≠ e := by
    rintro rfl
    rw [h1] at h2; cases h2
  have hr := okH_r ok
  have e2 := q_inc (d := d) (h := jset h e (1040, cap, ju g tl.toNat v)) (m := cap) r3 r4 (by omega)
  have e3 := fun (κ : AH → Rz) (u : Ph κ) => aSr_in (κ := κ) (u := u) (i := tl) h2 ok r3 r4 (by omega)
  have b1 : (if tl + 1 < (cap : Int) then tl + 1 else 0) < 2147483648 := by split <;> omega
  have b2 : -2147483648 ≤ (if tl + 1 < (cap : Int) then tl + 1 else 0) := by split <;> omega
  rw [X63000 h hr (jrecv_in h1 rfl), E63000_0]
  generalize (if tl + 1 < (cap : Int) then tl + 1 else 0) = t2 at e2 b1 b2 ⊢
  simp (disch := first | assumption | omega | decide | exact okF_i | exact okF_r | exact okF_n | exact okF_j | rfl) only [jc_ref, rI_int, rR_ref, rR_null, rJ_long, ckR_ref, ckR_null, ckr_ref, ckr_null, ckW_int, ckW_ref, ckW_null, cI_ok, cR_ok, cR_null, cV_ok, cJ_ok, qH_eq, qD_in, aG_ref, aS_ref, aL_ref, pF_ref, cK_ref, cK_null, zI_lit, zJ_lit, zI_add, zI_sub, zI_mul, zI_neg, zI_eq, zI_lt, zI_le, Int.reduceLT, Int.reduceLE, Int.reduceAdd, Int.reduceSub, Int.reduceMul, Int.reduceNeg, Int.reduceEq, Int.reduceNe, reduceIte, jf_in, pFc_in, aGc_V, aLc_in, cKc_in, nA_in, jm_s1, jm_s2, jm_p1, jm_p2, ckR_is, ckr_is, rR_is, ckW_is, cR_is, obi, oDQ_0, oDQ_1, oDQ_2, oDQs_0, oDQs_1, oDQs_2, nDQs_0, h1, if_neg hv, e3, e2, jm_s2]
/-- growing: room is made ahead of the first -/
theorem q_gl : ∀ (j : Nat) (k : Int) (h : AH) (g : Nat → Value), jm h e = some (1040, cap, g) → cap < 400000 → 0 ≤ k → hd ≤ cap → k + j = hd → ∀ {i1 i2 i3 i4 i6 : Int32}, ∃ h2 g2, G d 63004 145 [.ref a, .int i1, .int i2, .int i3, .int i4, .ref e, .int i6, .int (zI k), .int (zI hd)] [] h = some (.inl none, h2) ∧ Only h h2 (fun q => q = e) ∧ jm h2 e = some (1040, cap, g2) ∧ ∀ m, g2 m = if k.toNat ≤ m ∧ m < hd.toNat then .null else g m := by
  intro j
  induction j with
  | zero =>
    intro k h g h2 hc k0 hn hk i1 i2 i3 i4 i6
    refine ⟨h, g, ?_, ⟨rfl, rfl, rfl, fun _ _ => rfl⟩, h2, fun m => by rw [if_neg (by omega)]⟩
    rw [E63004_145]
    simp (disch := omega) only [zI_lit, zJ_lit, zI_add, zI_sub, zI_mul, zI_neg, zI_eq, zI_lt, zI_le, Int.reduceLT, Int.reduceLE, Int.reduceAdd, Int.reduceSub, Int.reduceMul, Int.reduceNeg, Int.reduceEq, Int.reduceNe, reduceIte]
    rw [if_pos (by omega)]
  | succ j ih =>
    intro k h g h2 hc k0 hn hk i1 i2 i3 i4 i6
    obtain ⟨h3, g2, e1, o, m2, e2⟩ := ih (k + 1) (jset h e (1040, cap, ju g k.toNat .null)) (ju g k.toNat .null) jm_s1 hc (by omega) hn (by omega) (i1 := i1) (i2 := i2) (i3 := i3) (i4 := i4) (i6 := i6)
    refine ⟨h3, g2, ?_, o.set rfl, m2, fun m => ?_⟩
    · rw [E63004_145]
      have e3 := fun (κ : AH → Rz) (u : Ph κ) => aSr_in (κ := κ) (u := u) (v := .null) (i := k) h2 (Or.inl rfl) k0 (by omega) (by omega)
      simp (disch := omega) only [jc_ref, rI_int, rR_ref, rR_null, rJ_long, ckR_ref, ckR_null, ckr_ref, ckr_null, ckW_int, ckW_ref, ckW_null, cI_ok, cR_ok, cR_null, cV_ok, cJ_ok, qH_eq, qD_in, aG_ref, aS_ref, aL_ref, pF_ref, cK_ref, cK_null, zI_lit, zJ_lit, zI_add, zI_sub, zI_mul, zI_neg, zI_eq, zI_lt, zI_le, Int.reduceLT, Int.reduceLE, Int.reduceAdd, Int.reduceSub, Int.reduceMul, Int.reduceNeg, Int.reduceEq, Int.reduceNe, reduceIte, e3]
      rw [if_neg (by omega), e1]
    · rw [e2 m]
      by_cases hm : m = k.toNat
      · subst hm
        rw [ju_self, if_neg (show ¬ ((k + 1).toNat ≤ k.toNat ∧ k.toNat < hd.toNat) by omega), if_pos (show k.toNat ≤ k.toNat ∧ k.toNat < hd.toNat by omega)]
      · rw [ju_ne hm]
        by_cases c : k.toNat ≤ m ∧ m < hd.toNat
        · rw [if_pos c, if_pos (by omega)]
        · rw [if_neg c, if_neg (by omega)]
theorem q_grow {b : Nat} (h1 : jm h a = some (63, 3, oDQ e hd hd)) (h2 : jm h e = some (1040, cap, g)) (hm : je h 47 = .ref q0) (ha : a < h.1) (he : e < h.1) (r1 : 0 ≤ hd) (r2 : hd < cap) (hc : cap < 100000) (hb : g hd.toNat = .ref b) :
    ∃ h3 g3, M (d + 4) 63004 [.ref a, .int (zI 1)] h = some (.inl none, h3) ∧ (h3.1 = h.1 + 1 ∧ h3.2.1 = h.2.1 + dqCap cap ∧ h3.2.2.1 = h.2.2.1 ∧ ∀ q, q ≠ a → q ≠ h.1 → jm h3 q = jm h q) ∧ jm h3 a = some (63, 3, oDQ h.1 (hd + (dqCap cap - cap : Nat)) hd) ∧ jm h3 h.1 = some (1040, dqCap cap, g3) ∧
      ∀ m, m < dqCap cap → g3 m = if m < hd.toNat then g m else if m < hd.toNat + (dqCap cap - cap) then .null else g (m - (dqCap cap - cap)) := by
  have hcap : cap < dqCap cap := by unfold dqCap; split <;> omega
  have hcap2 : dqCap cap < 300000 := by unfold dqCap; split <;> omega
  obtain ⟨jp, hjp, hjp2⟩ : ∃ jp : Int, dqCap cap = ((cap : Int) + jp).toNat ∧ 0 < jp := ⟨(dqCap cap : Int) - cap, by omega, by omega⟩
  have nh : a ≠ h.1 := Nat.ne_of_lt ha
  have nhe : h.1 ≠ a := Ne.symm nh
  have e1 := a_copyOf (d := d) (m := (cap : Int) + jp) h2 (Or.inl rfl) he hm hc (by omega) (by omega)
  have hmin : (min (cap : Int) ((cap : Int) + jp)).toNat = cap := by omega
  rw [hmin, ← hjp] at e1
  have f1 : jm (jset (jpush h (1040, dqCap cap, fun _ => .null)) h.1 (1040, dqCap cap, jcpy g (fun _ => .null) 0 0 cap)) a = some (63, 3, oDQ e hd hd) := by
    rw [jm_s2 nh, jm_p2 nh]; exact h1
  -- the copy, its first part slid
  have gh : jcpy g (fun _ => .null) 0 0 cap hd.toNat = .ref b := by
    unfold jcpy
    rw [if_pos (by omega), show 0 + (hd.toNat - 0) = hd.toNat by omega, hb]
  obtain ⟨h4, e4⟩ : ∃ h4, h4 = jset (jset (jpush h (1040, dqCap cap, fun _ => .null)) h.1 (1040, dqCap cap, jcpy g (fun _ => .null) 0 0 cap)) a (63, 3, oDQ h.1 hd hd) := ⟨_, rfl⟩
  have k1 : jm h4 a = some (63, 3, oDQ h.1 hd hd) := by rw [e4]; exact jm_s1
  have k2 : jm h4 h.1 = some (1040, dqCap cap, jcpy g (fun _ => .null) 0 0 cap) := by rw [e4, jm_s2 nhe]; exact jm_s1
  have k3 : h4.1 = h.1 + 1 ∧ h4.2.1 = h.2.1 + dqCap cap ∧ h4.2.2.1 = h.2.2.1 ∧ ∀ q, q ≠ a → q ≠ h.1 → jm h4 q = jm h q := by
    rw [e4]
    exact ⟨rfl, rfl, rfl, fun q q1 q2 => by rw [jm_s2 q1, jm_s2 q2, jm_p2 q2]⟩
  have e5 := acp (d := d + 2) (sp := hd) (dp := hd + jp) (k := (cap : Int) - hd) k2 k2 rfl (by omega) (by omega) (by omega) (by omega) (by omega) (by omega) (by omega)
  obtain ⟨h5, e6⟩ : ∃ h5, h5 = jset h4 h.1 (1040, dqCap cap, jcpy (jcpy g (fun _ => .null) 0 0 cap) (jcpy g (fun _ => .null) 0 0 cap) hd.toNat (hd + jp).toNat ((cap : Int) - hd).toNat) := ⟨_, rfl⟩
  have l2 : jm (jset h5 a (63, 3, oDQ h.1 (hd + jp) hd)) h.1 = some (1040, dqCap cap, jcpy (jcpy g (fun _ => .null) 0 0 cap) (jcpy g (fun _ => .null) 0 0 cap) hd.toNat (hd + jp).toNat ((cap : Int) - hd).toNat) := by
    rw [e6, jm_s2 nhe]; exact jm_s1
  rw [← e6] at e5
  have k5 : jm h5 a = some (63, 3, oDQ h.1 hd hd) := by rw [e6, jm_s2 nh]; exact k1
  obtain ⟨h6, g6, w1, ⟨o1, o2, o3, o4⟩, w3, w4⟩ := q_gl (d := d + 3) (a := a) (hd := hd + jp) jp.toNat hd (jset h5 a (63, 3, oDQ h.1 (hd + jp) hd)) _ l2 (by omega) r1 (by omega) (by omega) (i1 := zI 1) (i2 := zI cap) (i3 := zI ((cap : Int) + jp)) (i4 := zI jp) (i6 := zI ((cap : Int) + jp - cap))
  have h96 : G (d + 3) 63004 96 [.ref a, .int (zI 1), .int (zI cap), .int (zI ((cap : Int) + jp)), .int (zI jp), .ref h.1, jno, jno, jno] [] h4 = some (.inl none, h6) := by
    rw [E63004_96]
    have x : (cap : Int) + jp - cap = jp := by omega
    rw [x] at w1
    simp (disch := first | assumption | omega | decide | exact okF_i | exact okF_r | exact okF_n | exact okF_j | rfl) only [jc_ref, rI_int, rR_ref, rR_null, rJ_long, ckR_ref, ckR_null, ckr_ref, ckr_null, ckW_int, ckW_ref, ckW_null, cI_ok, cR_ok, cR_null, cV_ok, cJ_ok, qH_eq, qD_in, aG_ref, aS_ref, aL_ref, pF_ref, cK_ref, cK_null, zI_lit, zJ_lit, zI_add, zI_sub, zI_mul, zI_neg, zI_eq, zI_lt, zI_le, Int.reduceLT, Int.reduceLE, Int.reduceAdd, Int.reduceSub, Int.reduceMul, Int.reduceNeg, Int.reduceEq, Int.reduceNe, reduceIte, jf_in, pFc_in, aGc_V, aLc_in, cKc_in, nA_in, jm_s1, jm_s2, jm_p1, jm_p2, ckR_is, ckr_is, rR_is, ckW_is, cR_is, obi, oDQ_0, oDQ_1, oDQ_2, oDQs_0, oDQs_1, oDQs_2, nDQs_0, k1, x, e5, k5, w1]
  have h49 : G (d + 3) 63004 49 [.ref a, .int (zI 1), .int (zI cap), .int (zI ((cap : Int) + jp)), .int (zI jp), jno, jno, jno, jno] [] h = some (.inl none, h6) := by
    rw [E63004_49]
    have hb2 : ¬ ((.ref b : Value) = .null) := fun z => by cases z
    simp (disch := first | assumption | omega | decide | exact okF_i | exact okF_r | exact okF_n | exact okF_j | rfl) only [jc_ref, rI_int, rR_ref, rR_null, rJ_long, ckR_ref, ckR_null, ckr_ref, ckr_null, ckW_int, ckW_ref, ckW_null, cI_ok, cR_ok, cR_null, cV_ok, cJ_ok, qH_eq, qD_in, aG_ref, aS_ref, aL_ref, pF_ref, cK_ref, cK_null, zI_lit, zJ_lit, zI_add, zI_sub, zI_mul, zI_neg, zI_eq, zI_lt, zI_le, Int.reduceLT, Int.reduceLE, Int.reduceAdd, Int.reduceSub, Int.reduceMul, Int.reduceNeg, Int.reduceEq, Int.reduceNe, reduceIte, jf_in, pFc_in, aGc_V, aLc_in, cKc_in, nA_in, jm_s1, jm_s2, jm_p1, jm_p2, ckR_is, ckr_is, rR_is, ckW_is, cR_is, obi, oDQ_0, oDQ_1, oDQ_2, oDQs_0, oDQs_1, oDQs_2, nDQs_0, h1, e1, f1]
    rw [← e4]
    rw [if_neg (Int.lt_irrefl _)]
    simp (disch := first | assumption | omega | decide | exact okF_i | exact okF_r | exact okF_n | exact okF_j | rfl) only [jc_ref, rI_int, rR_ref, rR_null, rJ_long, ckR_ref, ckR_null, ckr_ref, ckr_null, ckW_int, ckW_ref, ckW_null, cI_ok, cR_ok, cR_null, cV_ok, cJ_ok, qH_eq, qD_in, aG_ref, aS_ref, aL_ref, pF_ref, cK_ref, cK_null, zI_lit, zJ_lit, zI_add, zI_sub, zI_mul, zI_neg, zI_eq, zI_lt, zI_le, Int.reduceLT, Int.reduceLE, Int.reduceAdd, Int.reduceSub, Int.reduceMul, Int.reduceNeg, Int.reduceEq, Int.reduceNe, reduceIte, jf_in, pFc_in, aGc_V, aLc_in, cKc_in, nA_in, jm_s1, jm_s2, jm_p1, jm_p2, ckR_is, ckr_is, rR_is, ckW_is, cR_is, obi, oDQ_0, oDQ_1, oDQ_2, oDQs_0, oDQs_1, oDQs_2, nDQs_0, k1, k2, if_true, gh, if_neg hb2]
    rw [e4] at h96
    exact h96
  have h0 : M (d + 4) 63004 [.ref a, .int (zI 1)] h = some (.inl none, h6) := by
    rw [X63004 h (jrecv_in h1 rfl), E63004_0]
    simp (disch := first | assumption | omega | decide | exact okF_i | exact okF_r | exact okF_n | exact okF_j | rfl) only [jc_ref, rI_int, rR_ref, rR_null, rJ_long, ckR_ref, ckR_null, ckr_ref, ckr_null, ckW_int, ckW_ref, ckW_null, cI_ok, cR_ok, cR_null, cV_ok, cJ_ok, qH_eq, qD_in, aG_ref, aS_ref, aL_ref, pF_ref, cK_ref, cK_null, zI_lit, zJ_lit, zI_add, zI_sub, zI_mul, zI_neg, zI_eq, zI_lt, zI_le, Int.reduceLT, Int.reduceLE, Int.reduceAdd, Int.reduceSub, Int.reduceMul, Int.reduceNeg, Int.reduceEq, Int.reduceNe, reduceIte, jf_in, pFc_in, aGc_V, aLc_in, cKc_in, nA_in, jm_s1, jm_s2, jm_p1, jm_p2, ckR_is, ckr_is, rR_is, ckW_is, cR_is, obi, oDQ_0, oDQ_1, oDQ_2, oDQs_0, oDQs_1, oDQs_2, nDQs_0, h1, h2]
    by_cases c : (64 : Int) ≤ cap
    · rw [if_pos c, sar1 (by omega) (by omega), E63004_21]
      have hj : jp = (cap : Int) / 2 := by
        have : dqCap cap = cap + cap / 2 := by unfold dqCap; rw [if_neg (by omega)]
        omega
      simp (disch := first | assumption | omega | decide | exact okF_i | exact okF_r | exact okF_n | exact okF_j | rfl) only [jc_ref, rI_int, rR_ref, rR_null, rJ_long, ckR_ref, ckR_null, ckr_ref, ckr_null, ckW_int, ckW_ref, ckW_null, cI_ok, cR_ok, cR_null, cV_ok, cJ_ok, qH_eq, qD_in, aG_ref, aS_ref, aL_ref, pF_ref, cK_ref, cK_null, zI_lit, zJ_lit, zI_add, zI_sub, zI_mul, zI_neg, zI_eq, zI_lt, zI_le, Int.reduceLT, Int.reduceLE, Int.reduceAdd, Int.reduceSub, Int.reduceMul, Int.reduceNeg, Int.reduceEq, Int.reduceNe, reduceIte, jf_in, pFc_in, aGc_V, aLc_in, cKc_in, nA_in, jm_s1, jm_s2, jm_p1, jm_p2, ckR_is, ckr_is, rR_is, ckW_is, cR_is, obi, oDQ_0, oDQ_1, oDQ_2, oDQs_0, oDQs_1, oDQs_2, nDQs_0]
      rw [if_neg (by omega), if_pos (by omega), ← hj]
      exact h49
    · rw [if_neg c, E63004_21]
      have hj : jp = (cap : Int) + 2 := by
        have : dqCap cap = cap + (cap + 2) := by unfold dqCap; rw [if_pos (by omega)]
        omega
      simp (disch := first | assumption | omega | decide | exact okF_i | exact okF_r | exact okF_n | exact okF_j | rfl) only [jc_ref, rI_int, rR_ref, rR_null, rJ_long, ckR_ref, ckR_null, ckr_ref, ckr_null, ckW_int, ckW_ref, ckW_null, cI_ok, cR_ok, cR_null, cV_ok, cJ_ok, qH_eq, qD_in, aG_ref, aS_ref, aL_ref, pF_ref, cK_ref, cK_null, zI_lit, zJ_lit, zI_add, zI_sub, zI_mul, zI_neg, zI_eq, zI_lt, zI_le, Int.reduceLT, Int.reduceLE, Int.reduceAdd, Int.reduceSub, Int.reduceMul, Int.reduceNeg, Int.reduceEq, Int.reduceNe, reduceIte, jf_in, pFc_in, aGc_V, aLc_in, cKc_in, nA_in, jm_s1, jm_s2, jm_p1, jm_p2, ckR_is, ckr_is, rR_is, ckW_is, cR_is, obi, oDQ_0, oDQ_1, oDQ_2, oDQs_0, oDQs_1, oDQs_2, nDQs_0]
      rw [if_neg (by omega), if_pos (by omega), ← hj]
      exact h49
  refine ⟨h6, g6, h0, ⟨o1.trans ?_, o2.trans ?_, o3.trans ?_, fun q q1 q2 => ?_⟩, ?_, w3, fun m hm => ?_⟩
  · rw [e6]; exact k3.1
  · rw [e6]; exact k3.2.1
  · rw [e6]; exact k3.2.2.1
  · rw [o4 q q2, jm_s2 q1, e6, jm_s2 q2]; exact k3.2.2.2 q q1 q2
  · rw [o4 a nh, jm_s1, show hd + jp = hd + ((dqCap cap - cap : Nat) : Int) by omega]
  · rw [w4 m]
    by_cases c1 : m < hd.toNat
    · rw [if_neg (by omega), if_pos c1]
      unfold jcpy
      rw [if_neg (by omega), if_pos (by omega), show 0 + (m - 0) = m by omega]
    · rw [if_neg c1]
      by_cases c2 : m < hd.toNat + (dqCap cap - cap)
      · rw [if_pos (by omega), if_pos c2]
      · rw [if_neg (by omega), if_neg c2]
        unfold jcpy
        rw [if_pos (by omega), if_pos (by omega)]
        congr 1
        omega
end
