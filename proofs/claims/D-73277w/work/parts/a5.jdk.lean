/-! the library on plain cells: rows -/
def okH (h : AH) (v : Value) : Prop := v = .null ∨ ∃ b c, v = .ref b ∧ b < h.1 ∧ jm h b = some c ∧ c.1 < 1000
theorem okH_set {h : AH} {v : Value} {a : Nat} {c : Cl} (ok : okH h v) (hc : jm h a = some (c.1, c.2.1, c.2.2) ∨ c.1 < 1000 ∨ ∃ d, jm h a = some d ∧ 1000 ≤ d.1) : okH (jset h a c) v := by
  rcases ok with e | ⟨b, d, e, l, m, t⟩
  · exact Or.inl e
  · refine Or.inr ?_
    by_cases hb : b = a
    · subst hb
      refine ⟨b, c, e, l, by rw [jm_jset, if_pos rfl], ?_⟩
      rcases hc with hc | hc | ⟨x, hc, hx⟩
      · rw [m] at hc; cases hc; exact t
      · exact hc
      · rw [m] at hc; cases hc; omega
    · exact ⟨b, d, e, l, by rw [jm_jset, if_neg hb]; exact m, t⟩
theorem okH_lo {h : AH} {v : Value} {a : Nat} {c : Cl} (ok : okH h v) (hc : c.1 < 1000) : okH (jset h a c) v := okH_set ok (Or.inr (Or.inl hc))
theorem okH_hi {h : AH} {v : Value} {a : Nat} {c d : Cl} (ok : okH h v) (m : jm h a = some d) (hd : 1000 ≤ d.1) : okH (jset h a c) v := okH_set ok (Or.inr (Or.inr ⟨d, m, hd⟩))
theorem okH_push {h : AH} {v : Value} {c : Cl} (ok : okH h v) : okH (jpush h c) v := by
  rcases ok with e | ⟨b, d, e, l, m, t⟩
  · exact Or.inl e
  · refine Or.inr ⟨b, d, e, Nat.lt_succ_of_lt l, ?_, t⟩
    have hb : ¬ b = h.1 := fun z => absurd l (by rw [z]; exact Nat.lt_irrefl _)
    rw [jm_jpush, if_neg hb]; exact m
theorem okH_r {h : AH} {v : Value} (ok : okH h v) : isR v = true := by
  rcases ok with rfl | ⟨b, d, rfl, -⟩ <;> rfl
theorem okH_A {h : AH} {v : Value} {e n : Nat} {f : Nat → Value} (ok : okH h v) (m : jm h e = some (1040, n, f)) : okA h (.ref e) v = true := by
  rcases ok with rfl | ⟨b, ⟨t2, n2, f2⟩, rfl, -, m2, t⟩
  · rfl
  · have : Nat.blt t2 1000 = true := Nat.ble_eq_true_of_le t
    simp only [okA, jc, m, m2, this]
    rfl
theorem okE_H {Fo : Nat → Option Cl} {h H : AH} {v : Value} (R : RX Fo h H) (ok : okE H v) : okH h v := by
  rcases ok with e | ⟨b, c, e, m, t⟩
  · exact Or.inl e
  · obtain ⟨c2, m2, t2, -⟩ := R.any m t
    obtain ⟨W, r1, r2, -⟩ := R
    have hn := r1.1
    have lb := (r2 _ _ m).1
    exact Or.inr ⟨b, c2, e, Nat.lt_of_lt_of_eq lb hn.symm, m2, t2⟩
theorem jm_s1 {h : AH} {a : Nat} {c : Cl} : jm (jset h a c) a = some c := by rw [jm_jset, if_pos rfl]
theorem jm_s2 {h : AH} {a q : Nat} {c : Cl} (hq : q ≠ a) : jm (jset h a c) q = jm h q := by rw [jm_jset, if_neg hq]
theorem jm_p1 {h : AH} {c : Cl} : jm (jpush h c) h.1 = some c := by rw [jm_jpush, if_pos rfl]
theorem jm_p2 {h : AH} {q : Nat} {c : Cl} (hq : q ≠ h.1) : jm (jpush h c) q = jm h q := by rw [jm_jpush, if_neg hq]
theorem jset_jset {h : AH} {a : Nat} {c c2 : Cl} : jset (jset h a c) a c2 = jset h a c2 := by
  unfold jset
  refine Prod.ext rfl (Prod.ext rfl (Prod.ext rfl (funext fun q => ?_)))
  show (if q = a then some c2 else if q = a then some c else h.2.2.2 q) = if q = a then some c2 else h.2.2.2 q
  by_cases hq : q = a
  · rw [if_pos hq, if_pos hq]
  · rw [if_neg hq, if_neg hq, if_neg hq]
theorem jset_jpush {h : AH} {c c2 : Cl} (hl : c.2.1 = c2.2.1) : jset (jpush h c) h.1 c2 = jpush h c2 := by
  unfold jset jpush
  refine Prod.ext rfl (Prod.ext (by show h.2.1 + c.2.1 = h.2.1 + c2.2.1; rw [hl]) (Prod.ext rfl (funext fun q => ?_)))
  show (if q = h.1 then some c2 else if q = h.1 then some c else h.2.2.2 q) = if q = h.1 then some c2 else h.2.2.2 q
  by_cases hq : q = h.1
  · rw [if_pos hq, if_pos hq]
  · rw [if_neg hq, if_neg hq, if_neg hq]
section
variable {β : Type} {h : AH} {a e n m : Nat} {f g : Nat → Value} {i : Int} {v : Value}
theorem ckR_is {κ : Option β} {u : Ph κ} (hv : isR v = true) : zkR v κ u = κ := by show ckR v κ = κ; unfold ckR; rw [if_pos hv]
theorem ckr_is {κ : Option β} (hv : isR v = true) : ckR v κ = κ := by unfold ckR; rw [if_pos hv]
theorem rR_is {κ : Value → Option β} {u : Ph κ} (hv : isR v = true) : zpR v κ u = κ v := by cases v <;> first | rfl | cases hv
theorem ckW_is {κ : Option β} {u : Ph κ} (hv : isR v = true) : zkW v κ u = κ := by
  show ckW v κ = κ
  cases v <;> first | rfl | cases hv
theorem aSr_in {κ : AH → Option β} {u : Ph κ} (m : jm h e = some (1040, n, f)) (ok : okH h v) (h1 : 0 ≤ i) (h2 : i < (n : Int)) (hn : n < 2147483648) : zqA h (.ref e) v (zI i) κ u = κ (jset h e (1040, n, ju f i.toNat v)) := by
  show aSr h (.ref e) v (zI i) κ = _
  unfold aSr
  rw [okH_A ok m]
  have x : aS h (.ref e) [1040, 1050, 1060] (zI i) v κ = aSc h e (jm h e) [1040, 1050, 1060] (zI i) v κ () := rfl
  show aS h (.ref e) [1040, 1050, 1060] (zI i) v κ = _
  rw [x, m]
  exact aSc_V rfl h1 h2 hn
theorem cR_is {κ : Value → AH → Rz} {u : Ph κ} (hv : isR v = true) : zcR (some (.inl (some v), h)) κ u = κ v h := by cases v <;> first | rfl | cases hv
theorem acp {d : Nat} {t n1 t2 n2 : Nat} {sp dp k : Int} (ha : jm h a = some (t, n1, f)) (hb : jm h e = some (t2, n2, g)) (hc : cpOk t t2 = true) (s0 : 0 ≤ sp) (d0 : 0 ≤ dp) (k0 : 0 ≤ k) (s1 : sp + k ≤ n1) (d1 : dp + k ≤ n2) (l1 : n1 < 2147483648) (l2 : n2 < 2147483648) :
    M (d + 1) 90001 [.ref a, .int (zI sp), .ref e, .int (zI dp), .int (zI k)] h = some (.inl none, jset h e (t2, n2, jcpy f g sp.toNat dp.toNat k.toNat)) := by
  rw [M, if_pos (by decide)]
  simp only [jprim, ha, hb]
  have p : ∀ z : Int, 0 ≤ z → z < 2147483648 → ¬ zI z < 0 := fun z z0 z1 => by rw [zI_lit0, zI_lt (by omega) (by omega) (by omega) (by omega)]; omega
  rw [zI_clamp s0 (by omega), zI_clamp d0 (by omega), zI_clamp k0 (by omega), if_pos ⟨hc, p sp s0 (by omega), p dp d0 (by omega), p k k0 (by omega), by omega, by omega⟩]
theorem gcl {d : Nat} {t : Nat} (ha : jm h a = some (t, n, f)) (ht : t = 1040 ∨ t = 1041) : M (d + 1) 90002 [.ref a] h = some (.inl (some (je h 47)), h) := by
  rw [M, if_pos (by decide)]
  simp only [jprim, ha, if_pos ht]
theorem obi {d : Nat} : M (d + 1) 90000 [.ref a] h = some (.inl none, h) := by
  rw [M, if_pos (by decide)]; rfl
end
section
variable {d : Nat} {h : AH} {a e n : Nat} {f g : Nat → Value} {i j : Int}
theorem m_max (h1 : Rg i) (h2 : Rg j) : M (d + 1) 53000 [.int (zI i), .int (zI j)] h = some (.inl (some (.int (zI (max i j)))), h) := by
  obtain ⟨a1, a2⟩ := h1; obtain ⟨b1, b2⟩ := h2
  rw [X53000 h, E53000_0]
  simp (disch := omega) only [zI_lit, zJ_lit, zI_add, zI_sub, zI_mul, zI_neg, zI_eq, zI_lt, zI_le, Int.reduceLT, Int.reduceLE, Int.reduceAdd, Int.reduceSub, Int.reduceMul, Int.reduceNeg, Int.reduceEq, Int.reduceNe, reduceIte]
  by_cases e : i < j
  · rw [if_pos e, Int.max_eq_right (by omega)]
  · rw [if_neg e, Int.max_eq_left (by omega)]
theorem m_min (h1 : Rg i) (h2 : Rg j) : M (d + 1) 53001 [.int (zI i), .int (zI j)] h = some (.inl (some (.int (zI (min i j)))), h) := by
  obtain ⟨a1, a2⟩ := h1; obtain ⟨b1, b2⟩ := h2
  rw [X53001 h, E53001_0]
  simp (disch := omega) only [zI_lit, zJ_lit, zI_add, zI_sub, zI_mul, zI_neg, zI_eq, zI_lt, zI_le, Int.reduceLT, Int.reduceLE, Int.reduceAdd, Int.reduceSub, Int.reduceMul, Int.reduceNeg, Int.reduceEq, Int.reduceNe, reduceIte]
  by_cases e : j < i
  · rw [if_pos e, Int.min_eq_right (by omega)]
  · rw [if_neg e, Int.min_eq_left (by omega)]
theorem m_newLen (i0 : 0 ≤ i) (i1 : i < 1000000) {k : Int} (j0 : 0 < j) (j1 : j < 1000000) (k0 : 0 ≤ k) (k1 : k < 1000000) : M (d + 2) 52003 [.int (zI i), .int (zI j), .int (zI k)] h = some (.inl (some (.int (zI (i + max j k)))), h) := by
  rw [X52003 h, E52003_0, m_max ⟨by omega, by omega⟩ ⟨by omega, by omega⟩]
  simp (disch := omega) only [jc_ref, rI_int, rR_ref, rR_null, rJ_long, ckR_ref, ckR_null, ckr_ref, ckr_null, ckW_int, ckW_ref, ckW_null, cI_ok, cR_ok, cR_null, cV_ok, cJ_ok, qH_eq, qD_in, aG_ref, aS_ref, aL_ref, pF_ref, cK_ref, cK_null, zI_lit, zJ_lit, zI_add, zI_sub, zI_mul, zI_neg, zI_eq, zI_lt, zI_le, Int.reduceLT, Int.reduceLE, Int.reduceAdd, Int.reduceSub, Int.reduceMul, Int.reduceNeg, Int.reduceEq, Int.reduceNe, reduceIte]
  rw [if_neg (by omega), if_neg (by omega)]
theorem ob_check {n : Int} (i0 : 0 ≤ i) (i1 : i < n) (hn : n < 2147483648) : M (d + 2) 58000 [.int (zI i), .int (zI n)] h = some (.inl (some (.int (zI i))), h) := by
  have e : M (d + 1) 55002 [.int (zI i), .int (zI n), .null] h = some (.inl (some (.int (zI i))), h) := by
    rw [X55002 h rfl, E55002_0]
    simp (disch := omega) only [zI_lit, zJ_lit, zI_add, zI_sub, zI_mul, zI_neg, zI_eq, zI_lt, zI_le, Int.reduceLT, Int.reduceLE, Int.reduceAdd, Int.reduceSub, Int.reduceMul, Int.reduceNeg, Int.reduceEq, Int.reduceNe, reduceIte]
    rw [if_neg (by omega), if_pos i1]
  rw [X58000 h, E58000_0, e]
  simp only [jc_ref, rI_int, rR_ref, rR_null, rJ_long, ckR_ref, ckR_null, ckr_ref, ckr_null, ckW_int, ckW_ref, ckW_null, cI_ok, cR_ok, cR_null, cV_ok, cJ_ok, qH_eq, qD_in, aG_ref, aS_ref, aL_ref, pF_ref, cK_ref, cK_null]
theorem sar1 {z : Int} (h0 : 0 ≤ z) (h1 : z < 2147483648) : zI z >>> (zI 1 &&& zI 31) = zI (z / 2) := by
  have e : (zI 1 &&& zI 31) = 1 := by decide
  rw [e]
  apply Int32.toInt_inj.mp
  have e2 : (zI z >>> (1 : Int32)).toInt = (zI z).toInt >>> (1 : Nat) := by
    show (zI z >>> (1 : Int32)).toBitVec.toInt = _
    rw [Int32.toBitVec_shiftRight, BitVec.toInt_sshiftRight']
    rfl
  rw [zI_toInt (z := z / 2) (by omega) (by omega), e2, zI_toInt (by omega) (by omega), Int.shiftRight_eq_div_pow]
  rfl
theorem sar0 {x : Int32} : x >>> (zI 0 &&& zI 31) = x := by
  have e : (zI 0 &&& zI 31) = 0 := by decide
  rw [e]
  exact Int32.shiftRight_zero
theorem shl0 {x : Int32} : x <<< (zI 0 &&& zI 31) = x := by
  have e : (zI 0 &&& zI 31) = 0 := by decide
  rw [e]
  exact Int32.shiftLeft_zero
end
