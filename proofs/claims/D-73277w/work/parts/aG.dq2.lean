/-! ArrayDeque: what its methods do to the cell that stands for it; its iterator -/
-- jc_ref, rI_int, rR_ref, rR_null, rJ_long, ckR_ref, ckR_null, ckr_ref, ckr_null, ckW_int, ckW_ref, ckW_null, cI_ok, cR_ok, cR_null, cV_ok, cJ_ok, qH_eq, qD_in, aG_ref, aS_ref, aL_ref, pF_ref, cK_ref, cK_null, zI_lit, zJ_lit, zI_add, zI_sub, zI_mul, zI_neg, zI_eq, zI_lt, zI_le, Int.reduceLT, Int.reduceLE, Int.reduceAdd, Int.reduceSub, Int.reduceMul, Int.reduceNeg, Int.reduceEq, Int.reduceNe, reduceIte, jf_in, pFc_in, aGc_V, aLc_in, cKc_in, nA_in, jm_s1, jm_s2, jm_p1, jm_p2, ckR_is, ckr_is, rR_is, ckW_is, cR_is, obi, oDQ_0, oDQ_1, oDQ_2, oDQs_0, oDQs_1, oDQs_2, nDQs_0 = jc_ref, rI_int, rR_ref, rR_null, rJ_long, ckR_ref, ckR_null, ckr_ref, ckr_null, ckW_int, ckW_ref, ckW_null, cI_ok, cR_ok, cR_null, cV_ok, cJ_ok, qH_eq, qD_in, aG_ref, aS_ref, aL_ref, pF_ref, cK_ref, cK_null, zI_lit, zJ_lit, zI_add, zI_sub, zI_mul, zI_neg, zI_eq, zI_lt, zI_le, Int.reduceLT, Int.reduceLE, Int.reduceAdd, Int.reduceSub, Int.reduceMul, Int.reduceNeg, Int.reduceEq, Int.reduceNe, reduceIte, jf_in, pFc_in, aGc_V, aLc_in, cKc_in, nA_in, jm_s1, jm_s2, jm_p1, jm_p2, ckR_is, ckr_is, rR_is, ckW_is, cR_is, obi, oDQ_0, oDQ_1, oDQ_2, oDQs_0, oDQs_1, oDQs_2, nDQs_0
def oDI (c n lr : Int) (a : Nat) : Nat → Value := jL [.int (zI c), .int (zI n), .int (zI lr), .ref a]
def nDI : Nat → Value := jL [.int 0, .int 0, .int 0, .null]
section
variable {a : Nat} {c n lr x : Int}
theorem oDI_0 : oDI c n lr a 0 = .int (zI c) := rfl
theorem oDI_1 : oDI c n lr a 1 = .int (zI n) := rfl
theorem oDI_2 : oDI c n lr a 2 = .int (zI lr) := rfl
theorem oDI_3 : oDI c n lr a 3 = .ref a := rfl
theorem oDIs_0 : ju (oDI c n lr a) 0 (.int (zI x)) = oDI x n lr a := (ju_jL (Nat.le_of_ble_eq_true rfl)).trans rfl
theorem oDIs_1 : ju (oDI c n lr a) 1 (.int (zI x)) = oDI c x lr a := (ju_jL (Nat.le_of_ble_eq_true rfl)).trans rfl
theorem oDIs_2 : ju (oDI c n lr a) 2 (.int (zI x)) = oDI c n x a := (ju_jL (Nat.le_of_ble_eq_true rfl)).trans rfl
theorem nDIs_3 : ju nDI 3 (.ref a) = oDI 0 0 0 a := (ju_jL (Nat.le_of_ble_eq_true rfl)).trans rfl
end
-- jc_ref, rI_int, rR_ref, rR_null, rJ_long, ckR_ref, ckR_null, ckr_ref, ckr_null, ckW_int, ckW_ref, ckW_null, cI_ok, cR_ok, cR_null, cV_ok, cJ_ok, qH_eq, qD_in, aG_ref, aS_ref, aL_ref, pF_ref, cK_ref, cK_null, zI_lit, zJ_lit, zI_add, zI_sub, zI_mul, zI_neg, zI_eq, zI_lt, zI_le, Int.reduceLT, Int.reduceLE, Int.reduceAdd, Int.reduceSub, Int.reduceMul, Int.reduceNeg, Int.reduceEq, Int.reduceNe, reduceIte, jf_in, pFc_in, aGc_V, aLc_in, cKc_in, nA_in, jm_s1, jm_s2, jm_p1, jm_p2, ckR_is, ckr_is, rR_is, ckW_is, cR_is, obi, oDQ_0, oDQ_1, oDQ_2, oDQs_0, oDQs_1, oDQs_2, nDQs_0, oDI_0, oDI_1, oDI_2, oDI_3, oDIs_0, oDIs_1, oDIs_2, nDIs_3 = jc_ref, rI_int, rR_ref, rR_null, rJ_long, ckR_ref, ckR_null, ckr_ref, ckr_null, ckW_int, ckW_ref, ckW_null, cI_ok, cR_ok, cR_null, cV_ok, cJ_ok, qH_eq, qD_in, aG_ref, aS_ref, aL_ref, pF_ref, cK_ref, cK_null, zI_lit, zJ_lit, zI_add, zI_sub, zI_mul, zI_neg, zI_eq, zI_lt, zI_le, Int.reduceLT, Int.reduceLE, Int.reduceAdd, Int.reduceSub, Int.reduceMul, Int.reduceNeg, Int.reduceEq, Int.reduceNe, reduceIte, jf_in, pFc_in, aGc_V, aLc_in, cKc_in, nA_in, jm_s1, jm_s2, jm_p1, jm_p2, ckR_is, ckr_is, rR_is, ckW_is, cR_is, obi, oDQ_0, oDQ_1, oDQ_2, oDQs_0, oDQs_1, oDQs_2, nDQs_0, oDI_0, oDI_1, oDI_2, oDI_3, oDIs_0, oDIs_1, oDIs_2, nDIs_3
section
variable {Fo : Nat → Option Cl} {h H : AH} {d : Nat} {as : List Value}
theorem dq_hd {hd len cap : Nat} (h1 : hd < cap) (h2 : len < cap) : (hd + len) % cap < cap := Nat.mod_lt _ (by omega)
theorem pm_dqnew (R : RX Fo h H) : SimR Fo (pDQnew as H) (M (d + 12) 63900 as h) := by
  intro o H2 e
  unfold pDQnew at e
  split at e
  · rename_i a
    obtain ⟨m, e⟩ := wIf_inv e
    have m2 := R.get m rfl
    obtain ⟨W, R⟩ := R
    have hn := R.1.1
    have ha := Nat.lt_of_lt_of_eq (R.2.1 _ _ m).1 hn.symm
    cases e
    refine ⟨_, q_new (d := d + 9) m2 ha, R.up m (show 63 < 1000 by decide) rfl rfl rfl rfl (fun q hq hqa hw => ?_) (Or.inr (Or.inr (Or.inl ⟨17, 0, [], rfl, by decide, by decide, fun v hv => (by cases hv), h.1, fun _ => .null, jm_s1, if_pos ⟨by omega, by omega⟩, (jm_s2 (Ne.symm (Nat.ne_of_lt ha))).trans jm_p1, fun k _ => ?_⟩)))⟩
    · exact (jm_s2 hqa).trans (jm_p2 (Nat.ne_of_lt hq))
    · simp
  · cases e
theorem pm_dqempty (R : RX Fo h H) : SimR Fo (pDQempty as H) (M (d + 12) 63006 as h) := by
  intro o H2 e
  unfold pDQempty at e
  split at e
  · rename_i a
    replace e := wDQ_inv e
    obtain ⟨cap, hd, l, m, e⟩ := e
    replace e := wIf_inv e
    obtain ⟨hc, e⟩ := e
    obtain ⟨W, R⟩ := R
    obtain ⟨hl, hh, hr, e0, g, h1, we, h2, hg⟩ := R.dq m
    cases e
    have hm := dq_hd hh hl
    refine ⟨h, (q_empty (d := d + 11) h1 (by omega) (by omega) (by omega) (by omega)).trans ?_, W, R⟩
    rw [md hh (by omega)]
    cases l with
    | nil =>
      have : (hd : Int) = ((if hd + ([] : List Value).length < cap then hd + ([] : List Value).length else hd + ([] : List Value).length - cap : Nat) : Int) := by
        rw [if_pos (by simpa using hh)]; simp
      rw [if_pos this]; rfl
    | cons x r =>
      have : ¬ ((hd : Int) = ((if hd + (x :: r).length < cap then hd + (x :: r).length else hd + (x :: r).length - cap : Nat) : Int)) := by
        simp only [List.length_cons] at hl ⊢
        split <;> omega
      rw [if_neg this]; rfl
  · cases e
theorem dq_size {hd len cap : Nat} (h1 : hd < cap) (h2 : len < cap) : (if (hd : Int) ≤ ((hd + len) % cap : Nat) then (((hd + len) % cap : Nat) : Int) - hd else (((hd + len) % cap : Nat) : Int) - hd + cap) = len := by
  rw [md h1 (by omega)]
  by_cases c : hd + len < cap
  · rw [if_pos c, if_pos (by omega)]; omega
  · rw [if_neg c, if_neg (by omega)]; omega
theorem pm_dqsize (R : RX Fo h H) : SimR Fo (pDQsize as H) (M (d + 12) 63011 as h) := by
  intro o H2 e
  unfold pDQsize at e
  split at e
  · rename_i a
    replace e := wDQ_inv e
    obtain ⟨cap, hd, l, m, e⟩ := e
    replace e := wIf_inv e
    obtain ⟨hc, e⟩ := e
    obtain ⟨W, R⟩ := R
    obtain ⟨hl, hh, hr, e0, g, h1, we, h2, hg⟩ := R.dq m
    cases e
    have hm := dq_hd hh hl
    refine ⟨h, (q_size (d := d + 10) h1 h2 (by omega) (by omega) (by omega) (by omega) hc).trans ?_, W, R⟩
    rw [dq_size hh hl]
  · cases e
theorem pm_dqpoll (R : RX Fo h H) : SimR Fo (pDQpoll as H) (M (d + 12) 63010 as h) := by
  intro o H2 e
  unfold pDQpoll at e
  split at e
  · rename_i a
    replace e := wDQ_inv e
    obtain ⟨cap, hd, l, m, e⟩ := e
    replace e := wIf_inv e
    obtain ⟨⟨hc, hne⟩, e⟩ := e
    obtain ⟨W, R⟩ := R
    obtain ⟨hl, hh, hr, e0, g, h1, we, h2, hg⟩ := R.dq m
    cases e
    have nea : e0 ≠ a := by
      rintro rfl
      rw [h1] at h2; cases h2
    have l0 : 0 < l.length := List.length_pos_iff.mpr hne
    obtain ⟨b, hb⟩ := hr _ (getD_in l0)
    have g0 := hg 0 (by omega)
    rw [Nat.add_zero, Nat.mod_eq_of_lt hh, hb] at g0
    have x := q_poll (d := d + 10) h1 h2 (by omega) (by omega) hc (by simpa using g0)
    rw [hb]
    refine ⟨_, x, R.up0 m (show 263 < 1000 by decide) rfl rfl rfl rfl (fun q _ hq hw => (jm_s2 hq).trans (jm_s2 (fun z => hw (by rw [z]; exact we)))) (Or.inr (Or.inr (Or.inl ⟨cap, if hd + 1 = cap then 0 else hd + 1, l.tail, rfl, by simp; omega, by split <;> omega, fun v hv => hr v (List.mem_of_mem_tail hv), e0, _, jm_s1.trans ?_, we, (jm_s2 nea).trans jm_s1, fun k hk => ?_⟩)))⟩
    · have e1 : (if (hd : Int) + 1 < cap then (hd : Int) + 1 else 0) = ((if hd + 1 = cap then 0 else hd + 1 : Nat) : Int) := by
        by_cases c : hd + 1 = cap
        · rw [if_neg (by omega), if_pos c]; rfl
        · rw [if_pos (by omega), if_neg c]; rfl
      have e2 : (hd + l.length) % cap = ((if hd + 1 = cap then 0 else hd + 1) + l.tail.length) % cap := by
        have : l.tail.length = l.length - 1 := by simp
        by_cases c : hd + 1 = cap
        · rw [if_pos c, md hh (by omega), if_neg (by omega), Nat.mod_eq_of_lt (by omega)]; omega
        · rw [if_neg c, md hh (by omega), md (show hd + 1 < cap by omega) (by omega), this, show hd + 1 + (l.length - 1) = hd + l.length by omega]
      rw [e1, e2]
      rfl
    · have hnth : ((if hd + 1 = cap then 0 else hd + 1) + k) % cap = (hd + (k + 1)) % cap := by
        by_cases c : hd + 1 = cap
        · rw [if_pos c, Nat.zero_add, Nat.mod_eq_of_lt hk, show hd + (k + 1) = cap + k by omega, Nat.add_mod_left, Nat.mod_eq_of_lt hk]
        · rw [if_neg c, show hd + 1 + k = hd + (k + 1) by omega]
      have tl : l.tail.getD k .null = l.getD (k + 1) .null := by
        rw [List.getD_eq_getElem?_getD, List.getD_eq_getElem?_getD, List.getElem?_tail]
      rw [hnth, tl]
      simp only [Int.toNat_natCast]
      by_cases c2 : k + 1 = cap
      · rw [c2, show (hd + cap) % cap = hd by rw [Nat.add_mod_right, Nat.mod_eq_of_lt hh], ju_self, getD_out (by omega)]
      · have : (hd + (k + 1)) % cap ≠ hd := by
          rw [md hh (by omega)]; split <;> omega
        rw [ju_ne this, hg (k + 1) (by omega)]
  · cases e
theorem pm_dqadd (R : RX Fo h H) : SimR Fo (pDQadd as H) (M (d + 12) 63000 as h) := by
  intro o H2 e
  unfold pDQadd at e
  split at e
  · rename_i a v
    replace e := wDQ_inv e
    obtain ⟨cap, hd, l, m, e⟩ := e
    replace e := wIf_inv e
    obtain ⟨⟨ok, hv, hc⟩, e⟩ := e
    have ok2 := okE_H R ok
    have he := R.e
    obtain ⟨W, R⟩ := R
    have hn := R.1.1
    have ha := Nat.lt_of_lt_of_eq (R.2.1 _ _ m).1 hn.symm
    obtain ⟨hl, hh, hr, e0, g, h1, we, h2, hg⟩ := R.dq m
    have le0 : e0 < h.1 := Nat.lt_of_lt_of_eq (R.2.2.2.2.2.1 _ _ we) hn.symm
    have nea : e0 ≠ a := by
      rintro rfl
      rw [h1] at h2; cases h2
    obtain ⟨bv, hbv⟩ : ∃ q, v = .ref q := by
      rcases ok with z | ⟨q, _, z, -⟩
      · exact absurd z hv
      · exact ⟨q, z⟩
    have hm1 : ∀ v2 ∈ l ++ [v], ∃ q, v2 = .ref q := fun v2 hv2 => by
      rcases List.mem_append.mp hv2 with hv2 | hv2
      · exact hr _ hv2
      · rw [List.mem_singleton.mp hv2]; exact ⟨bv, hbv⟩
    have hll : (l ++ [v]).length = l.length + 1 := by simp
    have hm := dq_hd hh hl
    have x := q_add0 (d := d + 10) h1 h2 (by omega) (by omega) (by omega) (by omega) hc ok2 hv
    have tl2 : (if (((hd + l.length) % cap : Nat) : Int) + 1 < cap then (((hd + l.length) % cap : Nat) : Int) + 1 else 0) = (((hd + (l.length + 1)) % cap : Nat) : Int) := by
      rw [md hh (show l.length ≤ cap by omega), md hh (show l.length + 1 ≤ cap by omega)]
      by_cases c : hd + l.length < cap
      · rw [if_pos c]
        by_cases c2 : hd + (l.length + 1) < cap
        · rw [if_pos c2, if_pos (by omega)]; omega
        · rw [if_neg c2, if_neg (by omega)]; omega
      · rw [if_neg c, if_neg (show ¬ (hd + (l.length + 1) < cap) by omega), if_pos (by omega)]; omega
    rw [tl2] at x
    simp only [Int.toNat_natCast] at x
    -- what lies there with v put in
    have cont : ∀ k, k < cap → ju g ((hd + l.length) % cap) v ((hd + k) % cap) = (l ++ [v]).getD k .null := fun k hk => by
      rw [getD_app]
      by_cases c : k = l.length
      · rw [if_pos c, c, ju_self]
      · have : (hd + k) % cap ≠ (hd + l.length) % cap := by
          rw [md hh (by omega), md hh (by omega)]
          split <;> split <;> omega
        rw [if_neg c, ju_ne this, hg k hk]
    by_cases hlt : l.length + 1 < cap
    · rw [if_pos hlt] at e
      cases e
      have hne : ¬ ((hd : Int) = ((hd + (l.length + 1)) % cap : Nat)) := by
        rw [md hh (by omega)]; split <;> omega
      rw [if_neg hne] at x
      refine ⟨_, x, R.up0 m (show 263 < 1000 by decide) rfl rfl rfl rfl (fun q _ hq hw => (jm_s2 hq).trans (jm_s2 (fun z => hw (by rw [z]; exact we)))) (Or.inr (Or.inr (Or.inl ⟨cap, hd, _, rfl, by omega, hh, hm1, e0, _, jm_s1.trans ?_, we, (jm_s2 nea).trans jm_s1, cont⟩)))⟩
      rw [hll]; rfl
    · rw [if_neg hlt] at e
      cases e
      have hlc : l.length + 1 = cap := by omega
      have heq : (hd : Int) = ((hd + (l.length + 1)) % cap : Nat) := by rw [hlc, Nat.add_mod_right, Nat.mod_eq_of_lt hh]
      rw [if_pos heq, ← heq] at x
      obtain ⟨rm0, hrm⟩ := R.2.2.2.2.2.2.1
      have g0 := cont 0 (by omega)
      rw [Nat.add_zero, Nat.mod_eq_of_lt hh] at g0
      obtain ⟨b, hb⟩ := hm1 _ (getD_in (l := l ++ [v]) (k := 0) (by omega))
      rw [hb] at g0
      obtain ⟨h3, g3, y1, ⟨y2, y3, y4, y5⟩, y6, y7, y8⟩ := q_grow (d := d + 7) (q0 := rm0) (h := jset (jset h e0 (1040, cap, ju g ((hd + l.length) % cap) v)) a (63, 3, oDQ e0 hd hd)) (hd := hd) jm_s1 ((jm_s2 nea).trans jm_s1) (by show je h 47 = _; rw [he]; exact hrm) ha le0 (by omega) (by omega) hc (by simpa using g0)
      simp only [Int.toNat_natCast] at y8
      have x2 : M (d + 12) 63000 [.ref a, v] h = some (.inl none, h3) := by
        refine Eq.trans x ?_
        rw [y1]
        rfl
      have hcap : cap < dqCap cap := by unfold dqCap; split <;> omega
      refine ⟨h3, x2, R.up m (show 263 < 1000 by decide) rfl y2 y3 y4 (fun q hq hqa hw => ?_) (Or.inr (Or.inr (Or.inl ⟨dqCap cap, hd + (dqCap cap - cap), l ++ [v], rfl, by omega, by omega, hm1, h.1, g3, y6.trans ?_, if_pos ⟨by omega, by omega⟩, y7, fun k hk => ?_⟩)))⟩
      · rw [y5 q hqa (Nat.ne_of_lt hq), jm_s2 hqa, jm_s2 (fun z => hw (by rw [z]; exact we))]
      · have e1 : (hd : Int) + ((dqCap cap - cap : Nat) : Int) = ((hd + (dqCap cap - cap) : Nat) : Int) := by omega
        have e2 : (hd : Int) = (((hd + (dqCap cap - cap) + (l ++ [v]).length) % dqCap cap : Nat) : Int) := by
          rw [hll, hlc, show hd + (dqCap cap - cap) + cap = hd + dqCap cap by omega, Nat.add_mod_right, Nat.mod_eq_of_lt (by omega)]
        rw [e1, ← e2]
        rfl
      · rw [md (show hd + (dqCap cap - cap) < dqCap cap by omega) (by omega)]
        by_cases c1 : hd + (dqCap cap - cap) + k < dqCap cap
        · rw [if_pos c1, y8 _ (by omega), if_neg (by omega), if_neg (by omega)]
          rw [show hd + (dqCap cap - cap) + k - (dqCap cap - cap) = hd + k by omega]
          have := cont k (by omega)
          rw [show (hd + k) % cap = hd + k from Nat.mod_eq_of_lt (by omega)] at this
          exact this
        · rw [if_neg c1, y8 _ (by omega)]
          by_cases c2 : hd + (dqCap cap - cap) + k - dqCap cap < hd
          · rw [if_pos c2]
            have := cont k (by omega)
            rw [md (k := k) hh (by omega), if_neg (by omega)] at this
            rw [← this]
            congr 1
            omega
          · rw [if_neg c2, if_pos (by omega), getD_out (by omega)]
  · cases e
theorem wDi_inv {H : AH} {q : Nat} {κ : Int → Int → Int32 → Nat → Rz} {r : Out × AH} (h : wDi H q κ = some r) : ∃ c n lr a, jm H q = some (64, 4, oDI c n lr a) ∧ 0 ≤ c ∧ c < 100000 ∧ 0 ≤ n ∧ n < 100000 ∧ κ c n (zI lr) a = some r := by
  obtain ⟨⟨i, lr, m, a⟩, ⟨h1, h2, h3, h4, h5⟩, e⟩ := wX_inv h
  refine ⟨i, lr, m.toInt, a, ?_, h2, h3, h4, h5, ?_⟩
  · unfold oDI; rw [zI_self]; exact h1
  · rw [zI_self]; exact e
theorem pm_dihas (R : RX Fo h H) : SimR Fo (pDIhas as H) (M (d + 12) 64000 as h) := by
  intro o H2 e
  unfold pDIhas at e
  split at e
  · rename_i q
    replace e := wDi_inv e
    obtain ⟨c, n, lr, a, m, c0, c1, n0, n1, e⟩ := e
    have m2 := R.get m rfl
    cases e
    refine ⟨h, ?_, R⟩
    rw [X64000 (d := d + 11) h (jrecv_in m2 rfl), E64000_0]
    simp (disch := first | assumption | omega | decide | exact okF_i | exact okF_r | exact okF_n | exact okF_j | rfl) only [jc_ref, rI_int, rR_ref, rR_null, rJ_long, ckR_ref, ckR_null, ckr_ref, ckr_null, ckW_int, ckW_ref, ckW_null, cI_ok, cR_ok, cR_null, cV_ok, cJ_ok, qH_eq, qD_in, aG_ref, aS_ref, aL_ref, pF_ref, cK_ref, cK_null, zI_lit, zJ_lit, zI_add, zI_sub, zI_mul, zI_neg, zI_eq, zI_lt, zI_le, Int.reduceLT, Int.reduceLE, Int.reduceAdd, Int.reduceSub, Int.reduceMul, Int.reduceNeg, Int.reduceEq, Int.reduceNe, reduceIte, jf_in, pFc_in, aGc_V, aLc_in, cKc_in, nA_in, jm_s1, jm_s2, jm_p1, jm_p2, ckR_is, ckr_is, rR_is, ckW_is, cR_is, obi, oDQ_0, oDQ_1, oDQ_2, oDQs_0, oDQs_1, oDQs_2, nDQs_0, oDI_0, oDI_1, oDI_2, oDI_3, oDIs_0, oDIs_1, oDIs_2, nDIs_3, m2]
    by_cases hn : n ≤ 0
    · rw [if_pos hn, decide_eq_false (by omega)]; rfl
    · rw [if_neg hn, decide_eq_true (by omega)]; rfl
  · cases e
theorem pm_dqiter (R : RX Fo h H) : SimR Fo (pDQiter as H) (M (d + 12) 63007 as h) := by
  intro o H2 e
  unfold pDQiter at e
  split at e
  · rename_i a
    replace e := wDQ_inv e
    obtain ⟨cap, hd, l, m, e⟩ := e
    replace e := wIf_inv e
    obtain ⟨hc, e⟩ := e
    have R0 := R
    have hn := R.hn
    obtain ⟨W, R⟩ := R
    have ha := Nat.lt_of_lt_of_eq (R.2.1 _ _ m).1 hn.symm
    obtain ⟨hl, hh, hr, e0, g, h1, we, h2, hg⟩ := R.dq m
    have h1 : jm h a = some (63, 3, oDQ e0 hd ((hd + l.length) % cap : Nat)) := h1
    have le0 : e0 < h.1 := Nat.lt_of_lt_of_eq (R.2.2.2.2.2.1 _ _ we) hn.symm
    have nah : a ≠ h.1 := Nat.ne_of_lt ha
    have hm := dq_hd hh hl
    cases e
    have hsz := q_size (d := d + 8) (h := jpush h (64, 4, oDI 0 0 0 a)) (a := a) (e := e0) (g := g) (cap := cap) (hd := hd) (tl := ((hd + l.length) % cap : Nat)) (by rw [jm_p2 nah]; exact h1) (by rw [jm_p2 (Nat.ne_of_lt le0)]; exact h2) (by omega) (by omega) (by omega) (by omega) hc
    rw [dq_size hh hl] at hsz
    have hx : M (d + 11) 64900 [.ref h.1, .ref a] (jpush h (64, 4, nDI)) = some (.inl none, jpush h (64, 4, oDI hd l.length (-1) a)) := by
      have hp : jm (jpush h (64, 4, nDI)) h.1 = some (64, 4, nDI) := jm_p1
      rw [X64900 _ rfl (jrecv_in hp rfl), E64900_0]
      have j2 : ∀ (c c2 : Cl), c.2.1 = c2.2.1 → jset (jpush h c) h.1 c2 = jpush h c2 := fun c c2 hc => jset_jpush hc
      simp (disch := first | assumption | omega | decide | exact okF_i | exact okF_r | exact okF_n | exact okF_j | rfl) only [jc_ref, rI_int, rR_ref, rR_null, rJ_long, ckR_ref, ckR_null, ckr_ref, ckr_null, ckW_int, ckW_ref, ckW_null, cI_ok, cR_ok, cR_null, cV_ok, cJ_ok, qH_eq, qD_in, aG_ref, aS_ref, aL_ref, pF_ref, cK_ref, cK_null, zI_lit, zJ_lit, zI_add, zI_sub, zI_mul, zI_neg, zI_eq, zI_lt, zI_le, Int.reduceLT, Int.reduceLE, Int.reduceAdd, Int.reduceSub, Int.reduceMul, Int.reduceNeg, Int.reduceEq, Int.reduceNe, reduceIte, jf_in, pFc_in, aGc_V, aLc_in, cKc_in, nA_in, jm_s1, jm_s2, jm_p1, jm_p2, ckR_is, ckr_is, rR_is, ckW_is, cR_is, obi, oDQ_0, oDQ_1, oDQ_2, oDQs_0, oDQs_1, oDQs_2, nDQs_0, oDI_0, oDI_1, oDI_2, oDI_3, oDIs_0, oDIs_1, oDIs_2, nDIs_3, j2, jm_p2, h1, hsz]
    refine ⟨jpush h (64, 4, oDI hd l.length (-1) a), ?_, R0.push rfl⟩
    have hx' : M (d + 11) 64900 [.ref h.1, .ref a] (jpush h (64, 4, jL [.int 0, .int 0, .int 0, .null])) = some (.inl none, jpush h (64, 4, oDI hd l.length (-1) a)) := hx
    rw [X63007 (d := d + 11) h (jrecv_in h1 rfl), E63007_0]
    simp (disch := first | assumption | omega | decide | exact okF_i | exact okF_r | exact okF_n | exact okF_j | rfl) only [jc_ref, rI_int, rR_ref, rR_null, rJ_long, ckR_ref, ckR_null, ckr_ref, ckr_null, ckW_int, ckW_ref, ckW_null, cI_ok, cR_ok, cR_null, cV_ok, cJ_ok, qH_eq, qD_in, aG_ref, aS_ref, aL_ref, pF_ref, cK_ref, cK_null, hx']
    rw [hn]
  · cases e
theorem pm_dinext (R : RX Fo h H) : SimR Fo (pDInext as H) (M (d + 12) 64001 as h) := by
  intro o H2 e
  unfold pDInext at e
  split at e
  · rename_i q
    replace e := wDi_inv e
    obtain ⟨c, n, lr, a, mq, c0, c1, n0, n1, e⟩ := e
    replace e := wDQ_inv e
    obtain ⟨cap, hd, l, m, e⟩ := e
    replace e := wIf_inv e
    obtain ⟨⟨hc, hn0, hnl, hcur⟩, e⟩ := e
    have m2 := R.get mq rfl
    cases e
    refine ⟨jset h q (64, 4, oDI (if c + 1 = cap then 0 else c + 1) (n - 1) c a), ?_, R.set mq rfl (Or.inl (by decide))⟩
    obtain ⟨W, R⟩ := R
    obtain ⟨hl, hh, hr, e0, g, h1, we, h2, hg⟩ := R.dq m
    have h1 : jm h a = some (63, 3, oDQ e0 hd ((hd + l.length) % cap : Nat)) := h1
    have hk : l.length - n.toNat < l.length := by omega
    obtain ⟨b, hb⟩ := hr _ (getD_in hk)
    have gk := hg (l.length - n.toNat) (by omega)
    rw [← hcur, hb] at gk
    have hcc : c < cap := by have := Nat.mod_lt (hd + (l.length - n.toNat)) (show 0 < cap by omega); omega
    have nqe : e0 ≠ q := by
      rintro rfl
      rw [m2] at h2; cases h2
    have el := (q_el (d := d + 10) h2 c0 hcc hc gk).2
    have inc := q_inc (d := d + 10) (h := jset h q (64, 4, oDI c n c a)) (m := cap) c0 hcc (by omega)
    have e1 : (if c + 1 < (cap : Int) then c + 1 else 0) = (if c + 1 = (cap : Int) then 0 else c + 1) := by
      by_cases z : c + 1 = (cap : Int)
      · rw [if_pos z, if_neg (by omega)]
      · rw [if_neg z, if_pos (by omega)]
    rw [e1] at inc
    rw [hb, X64001 (d := d + 11) h (jrecv_in m2 rfl), E64001_0]
    simp (disch := first | assumption | omega | decide | exact okF_i | exact okF_r | exact okF_n | exact okF_j | rfl) only [jc_ref, rI_int, rR_ref, rR_null, rJ_long, ckR_ref, ckR_null, ckr_ref, ckr_null, ckW_int, ckW_ref, ckW_null, cI_ok, cR_ok, cR_null, cV_ok, cJ_ok, qH_eq, qD_in, aG_ref, aS_ref, aL_ref, pF_ref, cK_ref, cK_null, zI_lit, zJ_lit, zI_add, zI_sub, zI_mul, zI_neg, zI_eq, zI_lt, zI_le, Int.reduceLT, Int.reduceLE, Int.reduceAdd, Int.reduceSub, Int.reduceMul, Int.reduceNeg, Int.reduceEq, Int.reduceNe, reduceIte, jf_in, pFc_in, aGc_V, aLc_in, cKc_in, nA_in, jm_s1, jm_s2, jm_p1, jm_p2, ckR_is, ckr_is, rR_is, ckW_is, cR_is, obi, oDQ_0, oDQ_1, oDQ_2, oDQs_0, oDQs_1, oDQs_2, nDQs_0, oDI_0, oDI_1, oDI_2, oDI_3, oDIs_0, oDIs_1, oDIs_2, nDIs_3, m2]
    rw [if_pos hn0]
    simp (disch := first | assumption | omega | decide | exact okF_i | exact okF_r | exact okF_n | exact okF_j | rfl) only [jc_ref, rI_int, rR_ref, rR_null, rJ_long, ckR_ref, ckR_null, ckr_ref, ckr_null, ckW_int, ckW_ref, ckW_null, cI_ok, cR_ok, cR_null, cV_ok, cJ_ok, qH_eq, qD_in, aG_ref, aS_ref, aL_ref, pF_ref, cK_ref, cK_null, zI_lit, zJ_lit, zI_add, zI_sub, zI_mul, zI_neg, zI_eq, zI_lt, zI_le, Int.reduceLT, Int.reduceLE, Int.reduceAdd, Int.reduceSub, Int.reduceMul, Int.reduceNeg, Int.reduceEq, Int.reduceNe, reduceIte, jf_in, pFc_in, aGc_V, aLc_in, cKc_in, nA_in, jm_s1, jm_s2, jm_p1, jm_p2, ckR_is, ckr_is, rR_is, ckW_is, cR_is, obi, oDQ_0, oDQ_1, oDQ_2, oDQs_0, oDQs_1, oDQs_2, nDQs_0, oDI_0, oDI_1, oDI_2, oDI_3, oDIs_0, oDIs_1, oDIs_2, nDIs_3, m2, h1, el, jm_s2, h2, inc, jset_jset]
  · cases e
end
