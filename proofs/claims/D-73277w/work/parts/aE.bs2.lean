/-! BitSet: clear, nextSetBit, cardinality -/
-- jc_ref, rI_int, rR_ref, rR_null, rJ_long, ckR_ref, ckR_null, ckr_ref, ckr_null, ckW_int, ckW_ref, ckW_null, cI_ok, cR_ok, cR_null, cV_ok, cJ_ok, qH_eq, qD_in, aG_ref, aS_ref, aL_ref, pF_ref, cK_ref, cK_null, zI_lit, zJ_lit, zI_add, zI_sub, zI_mul, zI_neg, zI_eq, zI_lt, zI_le, Int.reduceLT, Int.reduceLE, Int.reduceAdd, Int.reduceSub, Int.reduceMul, Int.reduceNeg, Int.reduceEq, Int.reduceNe, reduceIte, jf_in, pFc_in, aGc_V, aLc_in, cKc_in, nA_in, jm_s1, jm_s2, jm_p1, jm_p2, ckR_is, ckr_is, rR_is, ckW_is, cR_is, obi, okFz0, oBS_0, oBS_1, oBSs_0, oBSs_1, oBSs_2, nBSs_0, nBSs_1, nBSs_2 = jc_ref, rI_int, rR_ref, rR_null, rJ_long, ckR_ref, ckR_null, ckr_ref, ckr_null, ckW_int, ckW_ref, ckW_null, cI_ok, cR_ok, cR_null, cV_ok, cJ_ok, qH_eq, qD_in, aG_ref, aS_ref, aL_ref, pF_ref, cK_ref, cK_null, zI_lit, zJ_lit, zI_add, zI_sub, zI_mul, zI_neg, zI_eq, zI_lt, zI_le, Int.reduceLT, Int.reduceLE, Int.reduceAdd, Int.reduceSub, Int.reduceMul, Int.reduceNeg, Int.reduceEq, Int.reduceNe, reduceIte, jf_in, pFc_in, aGc_V, aLc_in, cKc_in, nA_in, jm_s1, jm_s2, jm_p1, jm_p2, ckR_is, ckr_is, rR_is, ckW_is, cR_is, obi, okFz0, oBS_0, oBS_1, oBSs_0, oBSs_1, oBSs_2, nBSs_0, nBSs_1, nBSs_2
theorem lo_ex {w : Nat} {b : BitVec w} (h : b ≠ 0#w) : ∃ t, LoB b t := by
  have key : ∀ n, (∃ t, LoB b t) ∨ ∀ j, j < n → b.getLsbD j = false := by
    intro n
    induction n with
    | zero => exact Or.inr fun j hj => absurd hj (Nat.not_lt_zero _)
    | succ n ih =>
      rcases ih with ih | ih
      · exact Or.inl ih
      · by_cases hb : b.getLsbD n = true
        · exact Or.inl ⟨n, BitVec.lt_of_getLsbD hb, hb, ih⟩
        · refine Or.inr fun j hj => ?_
          by_cases hj2 : j = n
          · subst hj2; exact Bool.eq_false_iff.mpr hb
          · exact ih j (by omega)
  rcases key w with k | k
  · exact k
  · refine absurd (BitVec.eq_of_getLsbD_eq fun j hj => ?_) h
    rw [k j hj]; simp
theorem nxtB_hit {s : Nat → Bool} : ∀ (n k t : Nat), (∀ j, k ≤ j → j < t → s j = false) → s t = true → k ≤ t → t < k + n → nxtB s n k = t
  | 0, k, t, _, _, h3, h4 => by omega
  | n + 1, k, t, h1, h2, h3, h4 => by
    simp only [nxtB]
    by_cases hk : k = t
    · subst hk; rw [if_pos h2]
    · rw [h1 k (Nat.le_refl _) (by omega), if_neg (by decide)]
      exact nxtB_hit n (k + 1) t (fun j a b => h1 j (by omega) b) h2 (by omega) (by omega)
theorem nxtB_no {s : Nat → Bool} : ∀ (n k : Nat), (∀ j, k ≤ j → j < k + n → s j = false) → nxtB s n k = -1
  | 0, _, _ => rfl
  | n + 1, k, h => by
    simp only [nxtB]
    rw [h k (Nat.le_refl _) (by omega), if_neg (by decide)]
    exact nxtB_no n (k + 1) fun j a b => h j (by omega) (by omega)
theorem cntB_add {s : Nat → Bool} : ∀ (m n k : Nat), cntB s (m + n) k = cntB s m k + cntB s n (k + m)
  | 0, n, k => by simp [cntB]
  | m + 1, n, k => by
    rw [show m + 1 + n = m + n + 1 by omega]
    simp only [cntB]
    rw [cntB_add m n (k + 1), show k + 1 + m = k + (m + 1) by omega]
    omega
theorem cntB_0 {s : Nat → Bool} : ∀ (n k : Nat), (∀ j, k ≤ j → s j = false) → cntB s n k = 0
  | 0, _, _ => rfl
  | n + 1, k, h => by
    simp only [cntB]
    rw [h k (Nat.le_refl _), if_neg (by decide), cntB_0 n (k + 1) fun j a => h j (by omega)]
theorem cntB_sum {s : Nat → Bool} : ∀ (n k : Nat) (d : Nat → Nat), (∀ j, j < n → d j = if s (k + j) = true then 1 else 0) → sumF d n = cntB s n k
  | 0, _, _, _ => rfl
  | n + 1, k, d, h => by
    simp only [sumF, cntB]
    rw [h 0 (by omega), Nat.add_zero, cntB_sum n (k + 1) (fun j => d (j + 1)) fun j hj => by rw [h (j + 1) (by omega), show k + (j + 1) = k + 1 + j by omega]]
theorem cntB_le {s : Nat → Bool} : ∀ (n k : Nat), cntB s n k ≤ n
  | 0, _ => Nat.le_refl _
  | n + 1, k => by
    simp only [cntB]
    have := cntB_le (s := s) n (k + 1)
    split <;> omega
theorem cntW_wd {s : Nat → Bool} {k : Nat} : cntW (wd s k).toBitVec = cntB s 64 (64 * k) := by
  unfold cntW
  refine cntB_sum 64 (64 * k) _ fun j hj => ?_
  unfold bF
  rw [BitVec.testBit_toNat, wd_bit hj]
  cases s (64 * k + j) <;> rfl
section
variable {d : Nat} {h : AH} {a e wl : Nat} {g : Nat → Value} {s : Nat → Bool} {u i : Int}
theorem b_clear : ∀ (n : Nat) (h : AH) (g : Nat → Value) (u : Int), u = n → jm h a = some (44, 3, oBS e u) → jm h e = some (1030, wl, g) → u ≤ wl → wl < 100000 → ∃ h2 g2, G d 44002 0 [.ref a] [] h = some (.inl none, h2) ∧ Only h h2 (fun q => q = a ∨ q = e) ∧ jm h2 a = some (44, 3, oBS e 0) ∧ jm h2 e = some (1030, wl, g2) ∧ ∀ k, g2 k = if k < n then .long 0 else g k := by
  intro n
  induction n with
  | zero =>
    intro h g u hu h1 h2 _ _
    subst hu
    refine ⟨h, g, ?_, ⟨rfl, rfl, rfl, fun _ _ => rfl⟩, h1, h2, fun k => by rw [if_neg (Nat.not_lt_zero _)]⟩
    rw [E44002_0]
    simp (disch := first | assumption | omega | decide | exact okF_i | exact okF_r | exact okF_n | exact okF_j | rfl) only [jc_ref, rI_int, rR_ref, rR_null, rJ_long, ckR_ref, ckR_null, ckr_ref, ckr_null, ckW_int, ckW_ref, ckW_null, cI_ok, cR_ok, cR_null, cV_ok, cJ_ok, qH_eq, qD_in, aG_ref, aS_ref, aL_ref, pF_ref, cK_ref, cK_null, zI_lit, zJ_lit, zI_add, zI_sub, zI_mul, zI_neg, zI_eq, zI_lt, zI_le, Int.reduceLT, Int.reduceLE, Int.reduceAdd, Int.reduceSub, Int.reduceMul, Int.reduceNeg, Int.reduceEq, Int.reduceNe, reduceIte, jf_in, pFc_in, aGc_V, aLc_in, cKc_in, nA_in, jm_s1, jm_s2, jm_p1, jm_p2, ckR_is, ckr_is, rR_is, ckW_is, cR_is, obi, okFz0, oBS_0, oBS_1, oBSs_0, oBSs_1, oBSs_2, nBSs_0, nBSs_1, nBSs_2, h1]
    rfl
  | succ n ih =>
    intro h g u hu h1 h2 hl hw
    have nae : a ≠ e := by
      rintro rfl
      rw [h1] at h2; cases h2
    have nea := Ne.symm nae
    obtain ⟨h3, g3, e1, ⟨o1, o2, o3, o4⟩, f1, f2, f3⟩ := ih (jset (jset h a (44, 3, oBS e (u - 1))) e (1030, wl, ju g (u - 1).toNat (.long (zJ 0)))) _ (u - 1) (by omega) (by rw [jm_s2 nae, jm_s1]) jm_s1 (by omega) hw
    refine ⟨h3, g3, ?_, ⟨o1, o2, o3, fun q hq => ?_⟩, f1, f2, fun k => ?_⟩
    · rw [E44002_0]
      simp (disch := first | assumption | omega | decide | exact okF_i | exact okF_r | exact okF_n | exact okF_j | rfl) only [jc_ref, rI_int, rR_ref, rR_null, rJ_long, ckR_ref, ckR_null, ckr_ref, ckr_null, ckW_int, ckW_ref, ckW_null, cI_ok, cR_ok, cR_null, cV_ok, cJ_ok, qH_eq, qD_in, aG_ref, aS_ref, aL_ref, pF_ref, cK_ref, cK_null, zI_lit, zJ_lit, zI_add, zI_sub, zI_mul, zI_neg, zI_eq, zI_lt, zI_le, Int.reduceLT, Int.reduceLE, Int.reduceAdd, Int.reduceSub, Int.reduceMul, Int.reduceNeg, Int.reduceEq, Int.reduceNe, reduceIte, jf_in, pFc_in, aGc_V, aLc_in, cKc_in, nA_in, jm_s1, jm_s2, jm_p1, jm_p2, ckR_is, ckr_is, rR_is, ckW_is, cR_is, obi, okFz0, oBS_0, oBS_1, oBSs_0, oBSs_1, oBSs_2, nBSs_0, nBSs_1, nBSs_2, h1, jm_s2, h2, aSj2, e1]
      rw [if_neg (by omega)]
    · rw [o4 q hq, jm_s2 (fun z => hq (Or.inr z)), jm_s2 (fun z => hq (Or.inl z))]
    · rw [f3 k]
      by_cases hk : k < n
      · rw [if_pos hk, if_pos (by omega)]
      · rw [if_neg hk]
        by_cases hk2 : k = (u - 1).toNat
        · subst hk2; rw [ju_self, if_pos (by omega)]; rfl
        · rw [ju_ne hk2, if_neg (by omega)]
theorem shm_bit {s : Nat → Bool} (i0 : 0 ≤ i) (i1 : i < 2147483648) {j : Nat} (hj : j < 64) : (wd s (i.toNat / 64) &&& ((-1 : Int64) <<< ((zI i).toInt64 &&& 63))).toBitVec.getLsbD j = (s (64 * (i.toNat / 64) + j) && decide (i.toNat ≤ 64 * (i.toNat / 64) + j)) := by
  rw [Int64.toBitVec_and, BitVec.getLsbD_and, wd_bit hj, shl_bit i0 i1 hj, neg_bit (by omega), Bool.and_true]
  have : (i.toNat ≤ 64 * (i.toNat / 64) + j) ↔ ¬ (j < i.toNat % 64) := by omega
  have e : decide (i.toNat ≤ 64 * (i.toNat / 64) + j) = !decide (j < i.toNat % 64) := by
    rw [← decide_not]; exact decide_eq_decide.mpr this
  rw [e]
theorem b_nloop (h1 : jm h a = some (44, 3, oBS e u)) (h2 : jm h e = some (1030, wl, g)) (hg : ∀ k, k < wl → g k = .long (wd s k)) (u1 : u ≤ wl) (hw : wl < 100000) (hs : ∀ k : Nat, 64 * u ≤ k → s k = false) (i0 : 0 ≤ i) {i1 : Int32} : ∀ (n : Nat) (w : Int) (y : Int64), 0 ≤ w → w + 1 + n = u → i / 64 ≤ w → (∀ j, j < 64 → y.toBitVec.getLsbD j = (s (64 * w.toNat + j) && decide (i.toNat ≤ 64 * w.toNat + j))) → (∀ j : Nat, i.toNat ≤ j → j < 64 * w.toNat → s j = false) →
    G (d + 2) 44007 63 [.ref a, .int i1, .int (zI w), .long y, jhalf] [] h = some (.inl (some (.int (zI (nxtB s (64 * wl - i.toNat) i.toNat)))), h) := by
  intro n
  induction n with
  | zero =>
    intro w y w0 hwu hi hy hlo
    by_cases hy0 : y = 0
    · have hno : nxtB s (64 * wl - i.toNat) i.toNat = -1 := nxtB_no _ _ fun j j1 j2 => by
        by_cases h3 : j < 64 * w.toNat
        · exact hlo j j1 h3
        · by_cases h4 : (j : Int) < 64 * u
          · have := hy (j - 64 * w.toNat) (by omega)
            rw [hy0, show 64 * w.toNat + (j - 64 * w.toNat) = j by omega, decide_eq_true j1, Bool.and_true] at this
            rw [← this]; simp
          · exact hs j (by omega)
      rw [hno, E44007_63]
      have : (lcm y (zJ 0) = zI 0) ↔ True := iff_true_intro (lcm_0.mpr hy0)
      simp (disch := first | assumption | omega | decide | exact okF_i | exact okF_r | exact okF_n | exact okF_j | rfl) only [jc_ref, rI_int, rR_ref, rR_null, rJ_long, ckR_ref, ckR_null, ckr_ref, ckr_null, ckW_int, ckW_ref, ckW_null, cI_ok, cR_ok, cR_null, cV_ok, cJ_ok, qH_eq, qD_in, aG_ref, aS_ref, aL_ref, pF_ref, cK_ref, cK_null, zI_lit, zJ_lit, zI_add, zI_sub, zI_mul, zI_neg, zI_eq, zI_lt, zI_le, Int.reduceLT, Int.reduceLE, Int.reduceAdd, Int.reduceSub, Int.reduceMul, Int.reduceNeg, Int.reduceEq, Int.reduceNe, reduceIte, jf_in, pFc_in, aGc_V, aLc_in, cKc_in, nA_in, jm_s1, jm_s2, jm_p1, jm_p2, ckR_is, ckr_is, rR_is, ckW_is, cR_is, obi, okFz0, oBS_0, oBS_1, oBSs_0, oBSs_1, oBSs_2, nBSs_0, nBSs_1, nBSs_2, this, if_true, h1]
      rw [if_pos (by omega)]
    · obtain ⟨t, ht⟩ := lo_ex (b := y.toBitVec) (fun z => hy0 (Int64.toBitVec_inj.mp z))
      obtain ⟨t1, t2, t3⟩ := id ht
      rw [hy t t1] at t2
      simp only [Bool.and_eq_true, decide_eq_true_eq] at t2
      have hhit : nxtB s (64 * wl - i.toNat) i.toNat = ((64 * w.toNat + t : Nat) : Int) := nxtB_hit _ _ _ (fun j j1 j2 => by
        by_cases h3 : j < 64 * w.toNat
        · exact hlo j j1 h3
        · have := t3 (j - 64 * w.toNat) (by omega)
          rw [hy _ (by omega), show 64 * w.toNat + (j - 64 * w.toNat) = j by omega, decide_eq_true j1, Bool.and_true] at this
          exact this) t2.1 t2.2 (by omega)
      have hn := m_ntz64 (d := d) (h := h) ht
      rw [hhit, E44007_63]
      have : (lcm y (zJ 0) = zI 0) ↔ False := iff_false_intro (fun z => hy0 (lcm_0.mp z))
      simp (disch := first | assumption | omega | decide | exact okF_i | exact okF_r | exact okF_n | exact okF_j | rfl) only [jc_ref, rI_int, rR_ref, rR_null, rJ_long, ckR_ref, ckR_null, ckr_ref, ckr_null, ckW_int, ckW_ref, ckW_null, cI_ok, cR_ok, cR_null, cV_ok, cJ_ok, qH_eq, qD_in, aG_ref, aS_ref, aL_ref, pF_ref, cK_ref, cK_null, zI_lit, zJ_lit, zI_add, zI_sub, zI_mul, zI_neg, zI_eq, zI_lt, zI_le, Int.reduceLT, Int.reduceLE, Int.reduceAdd, Int.reduceSub, Int.reduceMul, Int.reduceNeg, Int.reduceEq, Int.reduceNe, reduceIte, jf_in, pFc_in, aGc_V, aLc_in, cKc_in, nA_in, jm_s1, jm_s2, jm_p1, jm_p2, ckR_is, ckr_is, rR_is, ckW_is, cR_is, obi, okFz0, oBS_0, oBS_1, oBSs_0, oBSs_1, oBSs_2, nBSs_0, nBSs_1, nBSs_2, this, if_false, hn]
      rw [show w * 64 + (t : Int) = ((64 * w.toNat + t : Nat) : Int) by omega]
  | succ n ih =>
    intro w y w0 hwu hi hy hlo
    by_cases hy0 : y = 0
    · have ih' := ih (w + 1) (wd s (w.toNat + 1)) (by omega) (by omega) (by omega) (fun j hj => by
        rw [wd_bit hj, show (w + 1).toNat = w.toNat + 1 by omega, decide_eq_true (by omega), Bool.and_true]) (fun j j1 j2 => by
        by_cases h3 : j < 64 * w.toNat
        · exact hlo j j1 h3
        · have := hy (j - 64 * w.toNat) (by omega)
          rw [hy0, show 64 * w.toNat + (j - 64 * w.toNat) = j by omega, decide_eq_true j1, Bool.and_true] at this
          rw [← this]; simp)
      have gk := hg (w + 1).toNat (by omega)
      rw [show (w + 1).toNat = w.toNat + 1 by omega] at gk
      rw [E44007_63]
      have : (lcm y (zJ 0) = zI 0) ↔ True := iff_true_intro (lcm_0.mpr hy0)
      simp (disch := first | assumption | omega | decide | exact okF_i | exact okF_r | exact okF_n | exact okF_j | rfl) only [jc_ref, rI_int, rR_ref, rR_null, rJ_long, ckR_ref, ckR_null, ckr_ref, ckr_null, ckW_int, ckW_ref, ckW_null, cI_ok, cR_ok, cR_null, cV_ok, cJ_ok, qH_eq, qD_in, aG_ref, aS_ref, aL_ref, pF_ref, cK_ref, cK_null, zI_lit, zJ_lit, zI_add, zI_sub, zI_mul, zI_neg, zI_eq, zI_lt, zI_le, Int.reduceLT, Int.reduceLE, Int.reduceAdd, Int.reduceSub, Int.reduceMul, Int.reduceNeg, Int.reduceEq, Int.reduceNe, reduceIte, jf_in, pFc_in, aGc_V, aLc_in, cKc_in, nA_in, jm_s1, jm_s2, jm_p1, jm_p2, ckR_is, ckr_is, rR_is, ckW_is, cR_is, obi, okFz0, oBS_0, oBS_1, oBSs_0, oBSs_1, oBSs_2, nBSs_0, nBSs_1, nBSs_2, this, if_true, h1]
      rw [if_neg (by omega)]
      simp (disch := first | assumption | omega | decide | exact okF_i | exact okF_r | exact okF_n | exact okF_j | rfl) only [jc_ref, rI_int, rR_ref, rR_null, rJ_long, ckR_ref, ckR_null, ckr_ref, ckr_null, ckW_int, ckW_ref, ckW_null, cI_ok, cR_ok, cR_null, cV_ok, cJ_ok, qH_eq, qD_in, aG_ref, aS_ref, aL_ref, pF_ref, cK_ref, cK_null, zI_lit, zJ_lit, zI_add, zI_sub, zI_mul, zI_neg, zI_eq, zI_lt, zI_le, Int.reduceLT, Int.reduceLE, Int.reduceAdd, Int.reduceSub, Int.reduceMul, Int.reduceNeg, Int.reduceEq, Int.reduceNe, reduceIte, jf_in, pFc_in, aGc_V, aLc_in, cKc_in, nA_in, jm_s1, jm_s2, jm_p1, jm_p2, ckR_is, ckr_is, rR_is, ckW_is, cR_is, obi, okFz0, oBS_0, oBS_1, oBSs_0, oBSs_1, oBSs_2, nBSs_0, nBSs_1, nBSs_2, h1, h2, aGj2, show (w + 1).toNat = w.toNat + 1 by omega, gk]
      exact ih'
    · obtain ⟨t, ht⟩ := lo_ex (b := y.toBitVec) (fun z => hy0 (Int64.toBitVec_inj.mp z))
      obtain ⟨t1, t2, t3⟩ := id ht
      rw [hy t t1] at t2
      simp only [Bool.and_eq_true, decide_eq_true_eq] at t2
      have hhit : nxtB s (64 * wl - i.toNat) i.toNat = ((64 * w.toNat + t : Nat) : Int) := nxtB_hit _ _ _ (fun j j1 j2 => by
        by_cases h3 : j < 64 * w.toNat
        · exact hlo j j1 h3
        · have := t3 (j - 64 * w.toNat) (by omega)
          rw [hy _ (by omega), show 64 * w.toNat + (j - 64 * w.toNat) = j by omega, decide_eq_true j1, Bool.and_true] at this
          exact this) t2.1 t2.2 (by omega)
      have hn := m_ntz64 (d := d) (h := h) ht
      rw [hhit, E44007_63]
      have : (lcm y (zJ 0) = zI 0) ↔ False := iff_false_intro (fun z => hy0 (lcm_0.mp z))
      simp (disch := first | assumption | omega | decide | exact okF_i | exact okF_r | exact okF_n | exact okF_j | rfl) only [jc_ref, rI_int, rR_ref, rR_null, rJ_long, ckR_ref, ckR_null, ckr_ref, ckr_null, ckW_int, ckW_ref, ckW_null, cI_ok, cR_ok, cR_null, cV_ok, cJ_ok, qH_eq, qD_in, aG_ref, aS_ref, aL_ref, pF_ref, cK_ref, cK_null, zI_lit, zJ_lit, zI_add, zI_sub, zI_mul, zI_neg, zI_eq, zI_lt, zI_le, Int.reduceLT, Int.reduceLE, Int.reduceAdd, Int.reduceSub, Int.reduceMul, Int.reduceNeg, Int.reduceEq, Int.reduceNe, reduceIte, jf_in, pFc_in, aGc_V, aLc_in, cKc_in, nA_in, jm_s1, jm_s2, jm_p1, jm_p2, ckR_is, ckr_is, rR_is, ckW_is, cR_is, obi, okFz0, oBS_0, oBS_1, oBSs_0, oBSs_1, oBSs_2, nBSs_0, nBSs_1, nBSs_2, this, if_false, hn]
      rw [show w * 64 + (t : Int) = ((64 * w.toNat + t : Nat) : Int) by omega]
theorem b_next (h1 : jm h a = some (44, 3, oBS e u)) (h2 : jm h e = some (1030, wl, g)) (hg : ∀ k, k < wl → g k = .long (wd s k)) (u0 : 0 ≤ u) (u1 : u ≤ wl) (hw : wl < 100000) (hs : ∀ k : Nat, 64 * u ≤ k → s k = false) (i0 : 0 ≤ i) (i1 : i < 2147483648) : M (d + 3) 44007 [.ref a, .int (zI i)] h = some (.inl (some (.int (zI (nxtB s (64 * wl - i.toNat) i.toNat)))), h) := by
  have v := b_inv (d := d + 1) h1
  have w := b_wi (d := d + 1) (h := h) i0 i1
  rw [X44007 h (jrecv_in h1 rfl), E44007_0]
  simp (disch := first | assumption | omega | decide | exact okF_i | exact okF_r | exact okF_n | exact okF_j | rfl) only [jc_ref, rI_int, rR_ref, rR_null, rJ_long, ckR_ref, ckR_null, ckr_ref, ckr_null, ckW_int, ckW_ref, ckW_null, cI_ok, cR_ok, cR_null, cV_ok, cJ_ok, qH_eq, qD_in, aG_ref, aS_ref, aL_ref, pF_ref, cK_ref, cK_null, zI_lit, zJ_lit, zI_add, zI_sub, zI_mul, zI_neg, zI_eq, zI_lt, zI_le, Int.reduceLT, Int.reduceLE, Int.reduceAdd, Int.reduceSub, Int.reduceMul, Int.reduceNeg, Int.reduceEq, Int.reduceNe, reduceIte, jf_in, pFc_in, aGc_V, aLc_in, cKc_in, nA_in, jm_s1, jm_s2, jm_p1, jm_p2, ckR_is, ckr_is, rR_is, ckW_is, cR_is, obi, okFz0, oBS_0, oBS_1, oBSs_0, oBSs_1, oBSs_2, nBSs_0, nBSs_1, nBSs_2, v, w, h1]
  rw [if_pos i0]
  by_cases hi : i / 64 < u
  · rw [if_pos hi]
    have gk := hg (i / 64).toNat (by omega)
    have ek : (i / 64).toNat = i.toNat / 64 := by omega
    rw [ek] at gk
    have l := b_nloop (d := d) (i1 := zI i) h1 h2 hg u1 hw hs i0 (u - 1 - i / 64).toNat (i / 64) (wd s (i.toNat / 64) &&& ((-1 : Int64) <<< ((zI i).toInt64 &&& 63))) (by omega) (by omega) (Int.le_refl _) (fun j hj => by rw [ek]; exact shm_bit i0 i1 hj) (fun j j1 j2 => by omega)
    simp (disch := first | assumption | omega | decide | exact okF_i | exact okF_r | exact okF_n | exact okF_j | rfl) only [jc_ref, rI_int, rR_ref, rR_null, rJ_long, ckR_ref, ckR_null, ckr_ref, ckr_null, ckW_int, ckW_ref, ckW_null, cI_ok, cR_ok, cR_null, cV_ok, cJ_ok, qH_eq, qD_in, aG_ref, aS_ref, aL_ref, pF_ref, cK_ref, cK_null, zI_lit, zJ_lit, zI_add, zI_sub, zI_mul, zI_neg, zI_eq, zI_lt, zI_le, Int.reduceLT, Int.reduceLE, Int.reduceAdd, Int.reduceSub, Int.reduceMul, Int.reduceNeg, Int.reduceEq, Int.reduceNe, reduceIte, jf_in, pFc_in, aGc_V, aLc_in, cKc_in, nA_in, jm_s1, jm_s2, jm_p1, jm_p2, ckR_is, ckr_is, rR_is, ckW_is, cR_is, obi, okFz0, oBS_0, oBS_1, oBSs_0, oBSs_1, oBSs_2, nBSs_0, nBSs_1, nBSs_2, h1, h2, aGj2, ek, gk]
    exact l
  · rw [if_neg hi, nxtB_no _ _ fun j j1 j2 => hs j (by omega)]
theorem b_card (h1 : jm h a = some (44, 3, oBS e u)) (h2 : jm h e = some (1030, wl, g)) (hg : ∀ k, k < wl → g k = .long (wd s k)) (u1 : u ≤ wl) (hw : wl < 100000) (hs : ∀ k : Nat, 64 * u ≤ k → s k = false) : ∀ (n : Nat) (k : Int), 0 ≤ k → k + n = u → G (d + 1) 44000 4 [.ref a, .int (zI ((cntB s (64 * k.toNat) 0 : Nat) : Int)), .int (zI k)] [] h = some (.inl (some (.int (zI ((cntB s (64 * wl) 0 : Nat) : Int)))), h) := by
  intro n
  induction n with
  | zero =>
    intro k k0 hk
    have e1 : cntB s (64 * wl) 0 = cntB s (64 * k.toNat) 0 := by
      have := cntB_add (s := s) (64 * k.toNat) (64 * wl - 64 * k.toNat) 0
      rw [show 64 * k.toNat + (64 * wl - 64 * k.toNat) = 64 * wl by omega, cntB_0 (64 * wl - 64 * k.toNat) (0 + 64 * k.toNat) fun j hj => hs j (by omega)] at this
      omega
    rw [e1, E44000_4]
    simp (disch := first | assumption | omega | decide | exact okF_i | exact okF_r | exact okF_n | exact okF_j | rfl) only [jc_ref, rI_int, rR_ref, rR_null, rJ_long, ckR_ref, ckR_null, ckr_ref, ckr_null, ckW_int, ckW_ref, ckW_null, cI_ok, cR_ok, cR_null, cV_ok, cJ_ok, qH_eq, qD_in, aG_ref, aS_ref, aL_ref, pF_ref, cK_ref, cK_null, zI_lit, zJ_lit, zI_add, zI_sub, zI_mul, zI_neg, zI_eq, zI_lt, zI_le, Int.reduceLT, Int.reduceLE, Int.reduceAdd, Int.reduceSub, Int.reduceMul, Int.reduceNeg, Int.reduceEq, Int.reduceNe, reduceIte, jf_in, pFc_in, aGc_V, aLc_in, cKc_in, nA_in, jm_s1, jm_s2, jm_p1, jm_p2, ckR_is, ckr_is, rR_is, ckW_is, cR_is, obi, okFz0, oBS_0, oBS_1, oBSs_0, oBSs_1, oBSs_2, nBSs_0, nBSs_1, nBSs_2, h1]
    rw [if_pos (by omega)]
  | succ n ih =>
    intro k k0 hk
    have ih' := ih (k + 1) (by omega) (by omega)
    have gk := hg k.toNat (by omega)
    have c := m_bitCount (d := d) (h := h) (x := wd s k.toNat)
    have e1 : cntB s (64 * (k + 1).toNat) 0 = cntB s (64 * k.toNat) 0 + cntB s 64 (64 * k.toNat) := by
      have := cntB_add (s := s) (64 * k.toNat) 64 0
      rw [show 64 * k.toNat + 64 = 64 * (k + 1).toNat by omega, Nat.zero_add] at this
      exact this
    rw [cntW_wd] at c
    have e2 : ((cntB s (64 * k.toNat) 0 : Nat) : Int) + ((cntB s 64 (64 * k.toNat) : Nat) : Int) = ((cntB s (64 * (k + 1).toNat) 0 : Nat) : Int) := by omega
    rw [E44000_4]
    simp (disch := first | assumption | omega | decide | exact okF_i | exact okF_r | exact okF_n | exact okF_j | rfl) only [jc_ref, rI_int, rR_ref, rR_null, rJ_long, ckR_ref, ckR_null, ckr_ref, ckr_null, ckW_int, ckW_ref, ckW_null, cI_ok, cR_ok, cR_null, cV_ok, cJ_ok, qH_eq, qD_in, aG_ref, aS_ref, aL_ref, pF_ref, cK_ref, cK_null, zI_lit, zJ_lit, zI_add, zI_sub, zI_mul, zI_neg, zI_eq, zI_lt, zI_le, Int.reduceLT, Int.reduceLE, Int.reduceAdd, Int.reduceSub, Int.reduceMul, Int.reduceNeg, Int.reduceEq, Int.reduceNe, reduceIte, jf_in, pFc_in, aGc_V, aLc_in, cKc_in, nA_in, jm_s1, jm_s2, jm_p1, jm_p2, ckR_is, ckr_is, rR_is, ckW_is, cR_is, obi, okFz0, oBS_0, oBS_1, oBSs_0, oBSs_1, oBSs_2, nBSs_0, nBSs_1, nBSs_2, h1]
    rw [if_neg (by omega)]
    simp (disch := first | assumption | omega | decide | exact okF_i | exact okF_r | exact okF_n | exact okF_j | rfl) only [jc_ref, rI_int, rR_ref, rR_null, rJ_long, ckR_ref, ckR_null, ckr_ref, ckr_null, ckW_int, ckW_ref, ckW_null, cI_ok, cR_ok, cR_null, cV_ok, cJ_ok, qH_eq, qD_in, aG_ref, aS_ref, aL_ref, pF_ref, cK_ref, cK_null, zI_lit, zJ_lit, zI_add, zI_sub, zI_mul, zI_neg, zI_eq, zI_lt, zI_le, Int.reduceLT, Int.reduceLE, Int.reduceAdd, Int.reduceSub, Int.reduceMul, Int.reduceNeg, Int.reduceEq, Int.reduceNe, reduceIte, jf_in, pFc_in, aGc_V, aLc_in, cKc_in, nA_in, jm_s1, jm_s2, jm_p1, jm_p2, ckR_is, ckr_is, rR_is, ckW_is, cR_is, obi, okFz0, oBS_0, oBS_1, oBSs_0, oBSs_1, oBSs_2, nBSs_0, nBSs_1, nBSs_2, h1, h2, aGj2, gk, c, e2, ih']
end
section
variable {Fo : Nat → Option Cl} {h H : AH} {d : Nat} {as : List Value}
theorem pm_bsclear (R : RX Fo h H) : SimR Fo (pBSclear as H) (M (d + 12) 44002 as h) := by
  intro o H2 e
  unfold pBSclear at e
  split at e
  · rename_i a
    replace e := wBS_inv e
    obtain ⟨wl, s, m, e⟩ := e
    replace e := wIf_inv e
    obtain ⟨hw, e⟩ := e
    obtain ⟨W, R⟩ := R
    obtain ⟨w0, hs0, e0, g, u, h1, we, h2, hg, hu, hs, hx⟩ := R.bs m
    have h1 : jm h a = some (44, 3, oBS e0 u) := h1
    cases e
    obtain ⟨h3, g3, e1, ⟨o1, o2, o3, o4⟩, f1, f2, f3⟩ := b_clear (d := d + 11) u h g u rfl h1 h2 (by omega) hw
    refine ⟨h3, (X44002 (d := d + 11) h (jrecv_in h1 rfl)).trans e1, R.up0 m (show 244 < 1000 by decide) rfl o1 o2 o3 (fun q _ hq hw2 => o4 q (by rintro (z | z); exact hq z; exact hw2 (z ▸ we))) (Or.inr (Or.inl ⟨wl, _, rfl, w0, fun _ _ => rfl, e0, g3, 0, f1, we, f2, fun k hk => ?_, Nat.zero_le _, fun _ _ => rfl, fun z => absurd z (Nat.lt_irrefl _)⟩))⟩
    rw [f3 k, wd_0 fun _ _ => rfl]
    by_cases hk2 : k < u
    · rw [if_pos hk2]
    · rw [if_neg hk2, hg k hk, wd_0 fun j _ => hs _ (by omega)]
  · cases e
theorem pm_bsnext (R : RX Fo h H) : SimR Fo (pBSnext as H) (M (d + 12) 44007 as h) := by
  intro o H2 e
  unfold pBSnext at e
  split at e
  · rename_i a i
    replace e := wBS_inv e
    obtain ⟨wl, s, m, e⟩ := e
    replace e := wIf_inv e
    obtain ⟨⟨hw, i0⟩, e⟩ := e
    obtain ⟨W, R⟩ := R
    obtain ⟨w0, hs0, e0, g, u, h1, we, h2, hg, hu, hs, hx⟩ := R.bs m
    cases e
    have := b_next (d := d + 9) (i := i.toInt) h1 h2 hg (by omega) (by omega) hw (fun k hk => hs k (by omega)) i0 (by have := i.toInt_lt; simpa using this)
    rw [zI_self] at this
    exact ⟨h, this, W, R⟩
  · cases e
theorem pm_bscard (R : RX Fo h H) : SimR Fo (pBScard as H) (M (d + 12) 44000 as h) := by
  intro o H2 e
  unfold pBScard at e
  split at e
  · rename_i a
    replace e := wBS_inv e
    obtain ⟨wl, s, m, e⟩ := e
    replace e := wIf_inv e
    obtain ⟨hw, e⟩ := e
    obtain ⟨W, R⟩ := R
    obtain ⟨w0, hs0, e0, g, u, h1, we, h2, hg, hu, hs, hx⟩ := R.bs m
    have h1 : jm h a = some (44, 3, oBS e0 u) := h1
    cases e
    have l := b_card (d := d + 10) h1 h2 hg (by omega) hw (fun k hk => hs k (by omega)) u 0 (by omega) (by omega)
    refine ⟨h, ?_, W, R⟩
    rw [X44000 (d := d + 11) h (jrecv_in h1 rfl), E44000_0]
    exact l
  · cases e
end
