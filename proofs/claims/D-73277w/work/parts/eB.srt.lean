/-! sort: runs are sought, laid on the stack, merged -/
-- jc_ref, rI_int, rR_ref, rR_null, rJ_long, ckR_ref, ckR_null, ckr_ref, ckr_null, ckW_int, ckW_ref, ckW_null, cI_ok, cR_ok, cR_null, cV_ok, cJ_ok, qH_eq, qD_in, aG_ref, aS_ref, aL_ref, pF_ref, cK_ref, cK_null, zI_lit, zJ_lit, zI_add, zI_sub, zI_mul, zI_neg, zI_eq, zI_lt, zI_le, Int.reduceLT, Int.reduceLE, Int.reduceAdd, Int.reduceSub, Int.reduceMul, Int.reduceNeg, Int.reduceEq, Int.reduceNe, reduceIte, jf_in, pFc_in, aGi, aGb, aSi, aLc_in, cKc_in, nA_in, jm_s1, jm_s2, jm_p1, jm_p2, jm_b, jn_b, jn_s, jn_p, jset_jset, jset_jpush2, ckR_is, ckr_is, rR_is, ckW_is, cR_is, obi2, ckW_int, eq_self, if_true, ref_null, if_false, ne_eq, not_true_eq_false, not_false_eq_true, decide_true, decide_false, decide_not, Bool.true_and, Bool.false_and, Bool.and_true, Bool.and_false, Bool.true_or, Bool.false_or, Bool.or_true, Bool.or_false, Bool.not_true, Bool.not_false, Bool.false_eq_true, bI_t, bI_f, Int.natCast_one, Int.cast_ofNat_Int, Int.natCast_zero, Int.toNat_natCast, o72_0, o72_1, o72_2, o72_3, o72_4, o72_5, o72_6, o72_7, n72, o72s_0, o72s_1, o72s_2, o72s_3, o72s_4, o72s_5, o72s_6, o72s_7 = jc_ref, rI_int, rR_ref, rR_null, rJ_long, ckR_ref, ckR_null, ckr_ref, ckr_null, ckW_int, ckW_ref, ckW_null, cI_ok, cR_ok, cR_null, cV_ok, cJ_ok, qH_eq, qD_in, aG_ref, aS_ref, aL_ref, pF_ref, cK_ref, cK_null, zI_lit, zJ_lit, zI_add, zI_sub, zI_mul, zI_neg, zI_eq, zI_lt, zI_le, Int.reduceLT, Int.reduceLE, Int.reduceAdd, Int.reduceSub, Int.reduceMul, Int.reduceNeg, Int.reduceEq, Int.reduceNe, reduceIte, jf_in, pFc_in, aGi, aGb, aSi, aLc_in, cKc_in, nA_in, jm_s1, jm_s2, jm_p1, jm_p2, jm_b, jn_b, jn_s, jn_p, jset_jset, jset_jpush2, ckR_is, ckr_is, rR_is, ckW_is, cR_is, obi2, ckW_int, eq_self, if_true, ref_null, if_false, ne_eq, not_true_eq_false, not_false_eq_true, decide_true, decide_false, decide_not, Bool.true_and, Bool.false_and, Bool.and_true, Bool.and_false, Bool.true_or, Bool.false_or, Bool.or_true, Bool.or_false, Bool.not_true, Bool.not_false, Bool.false_eq_true, bI_t, bI_f, Int.natCast_one, Int.cast_ofNat_Int, Int.natCast_zero, Int.toNat_natCast, o72_0, o72_1, o72_2, o72_3, o72_4, o72_5, o72_6, o72_7, n72, o72s_0, o72s_1, o72s_2, o72s_3, o72s_4, o72s_5, o72s_6, o72s_7
section
variable {G : Nat → Option Cl} {rk : Value → Int} {d : Nat} {H : AH} {e e2 ts N N2 rb rl SL k En : Nat} {f0 f g : Nat → Value} {mg V : Int} {bs ls : Nat → Nat}
theorem RunW.lim (h : RunW rk f k bs ls) (hE : bs (k - 1) + ls (k - 1) = En) {i : Nat} (hi : i < k) : bs i + ls i ≤ En := by
  have o := h.ord (k - 1 - i) i (by omega)
  rw [show i + (k - 1 - i) = k - 1 by omega] at o
  by_cases c : k - 1 - i = 0
  · rw [show i = k - 1 by omega]; omega
  · rw [if_neg c] at o; omega
theorem StS.arr (h : StS G rk H ts e e2 rb rl N N2 SL k En f0 f mg V bs ls) (p : PmR f g En (N - En)) : StS G rk (jset H e (1040, N, g)) ts e e2 rb rl N N2 SL k En f0 g mg V bs ls := by
  obtain ⟨⟨hG, ⟨g1, g2, g3⟩, ⟨x1, x2, x3⟩, hN1, hq, me, ⟨t0, mt⟩, ms, l1, l2, l3⟩, hR, hW, ⟨hE, hN⟩, hA, hm, hp⟩ := h
  have pm := p.wd (lo2 := 0) (n2 := N) (Nat.zero_le _) (by omega)
  refine ⟨⟨hG.arr g1, ⟨g1, g2, g3⟩, ⟨x1, x2, x3⟩, hN1, hq, jm_s1, ⟨t0, (jm_s2 x1).trans mt⟩, (jm_s2 x2).trans ms, l1, l2, l3⟩, hR.fr (Fr.set (Or.inl rfl)) ⟨_, _, (jm_s2 x1).trans mt⟩, ⟨fun i hi => ⟨(hW.1 i hi).1, fun x y a b c => ?_⟩, hW.2⟩, ⟨hE, hN⟩, pm.mem (P := fun v => Cmp G v (rk v)) hA, hm, hp.tr pm⟩
  have l := hW.lim hE hi
  rw [p.2 x (Or.inl (by omega)), p.2 y (Or.inl (by omega))]
  exact (hW.1 i hi).2 x y a b c
/-- how long the stack is -/
theorem stk_le (hF : FulL k ls) (hx : ∀ i, i < k → 16 ≤ ls i) (hW : RunW rk f k bs ls) (hE : bs (k - 1) + ls (k - 1) = En) : (4 ≤ k → 119 ≤ En) ∧ (9 ≤ k → 1541 ≤ En) := by
  obtain ⟨F1, F2⟩ := hF
  obtain ⟨W1, W2, W3⟩ := hW
  refine ⟨fun hk => ?_, fun hk => ?_⟩
  · obtain ⟨j, rfl⟩ : ∃ j, k = j + 4 := ⟨k - 4, by omega⟩
    have hE : bs (j + 3) + ls (j + 3) = En := hE
    have b0 : bs (j + 1) = bs j + ls j := W2 j (by omega)
    have b1 : bs (j + 2) = bs (j + 1) + ls (j + 1) := W2 (j + 1) (by omega)
    have b2 : bs (j + 3) = bs (j + 2) + ls (j + 2) := W2 (j + 2) (by omega)
    have t0 : ls (j + 1) + ls (j + 2) < ls j := F1 j (by omega)
    have t1 : ls (j + 2) + ls (j + 3) < ls (j + 1) := F1 (j + 1) (by omega)
    have p2 : ls (j + 3) < ls (j + 2) := F2 (j + 2) (by omega)
    have x3 := hx (j + 3) (by omega)
    omega
  · obtain ⟨j, rfl⟩ : ∃ j, k = j + 9 := ⟨k - 9, by omega⟩
    have hE : bs (j + 8) + ls (j + 8) = En := hE
    have b0 : bs (j + 1) = bs j + ls j := W2 j (by omega)
    have b1 : bs (j + 2) = bs (j + 1) + ls (j + 1) := W2 (j + 1) (by omega)
    have b2 : bs (j + 3) = bs (j + 2) + ls (j + 2) := W2 (j + 2) (by omega)
    have b3 : bs (j + 4) = bs (j + 3) + ls (j + 3) := W2 (j + 3) (by omega)
    have b4 : bs (j + 5) = bs (j + 4) + ls (j + 4) := W2 (j + 4) (by omega)
    have b5 : bs (j + 6) = bs (j + 5) + ls (j + 5) := W2 (j + 5) (by omega)
    have b6 : bs (j + 7) = bs (j + 6) + ls (j + 6) := W2 (j + 6) (by omega)
    have b7 : bs (j + 8) = bs (j + 7) + ls (j + 7) := W2 (j + 7) (by omega)
    have t0 : ls (j + 1) + ls (j + 2) < ls j := F1 j (by omega)
    have t1 : ls (j + 2) + ls (j + 3) < ls (j + 1) := F1 (j + 1) (by omega)
    have t2 : ls (j + 3) + ls (j + 4) < ls (j + 2) := F1 (j + 2) (by omega)
    have t3 : ls (j + 4) + ls (j + 5) < ls (j + 3) := F1 (j + 3) (by omega)
    have t4 : ls (j + 5) + ls (j + 6) < ls (j + 4) := F1 (j + 4) (by omega)
    have t5 : ls (j + 6) + ls (j + 7) < ls (j + 5) := F1 (j + 5) (by omega)
    have t6 : ls (j + 7) + ls (j + 8) < ls (j + 6) := F1 (j + 6) (by omega)
    have p7 : ls (j + 8) < ls (j + 7) := F2 (j + 7) (by omega)
    have x8 := hx (j + 8) (by omega)
    omega
theorem so_141 {mr : Nat} (m1 : 16 ≤ mr) (m2 : mr ≤ 32) (hSL : k < SL) (hN : En < N) {m : Nat}
    (ih : ∀ (H : AH) (f : Nat → Value) (mg V : Int) (e2 N2 k En : Nat) (bs ls : Nat → Nat) (v9 v10 : Value), N - En ≤ m → En < N → (k = 0 → En = 0) → StS G rk H ts e e2 rb rl N N2 SL k En f0 f mg V bs ls → FulL k ls → (∀ i, i < k → 16 ≤ ls i) → V + 3000 * m < 1000000000 →
      ∃ (H2 : AH) (g : Nat → Value) (e3 N3 : Nat), G2 (d + 8) 72013 93 [.ref e, .int (zI En), .int (zI N), .null, .int (zI 0), .int (zI 0), .int (zI ((N - En : Nat) : Int)), .ref ts, .int (zI mr), v9, v10] [] H = some (.inl none, H2) ∧ jm H2 e = some (1040, N, g) ∧ SrtA rk g 0 N ∧ PmR f0 g 0 N ∧ Fr H H2 (SrtP e ts e2 rb rl) ∧ GroT H H2 N N2 N3 e2 e3)
    (h1 : N - En ≤ m + 1) (hz : k = 0 → En = 0) (hF : FulL k ls) (hx : ∀ i, i < k → 16 ≤ ls i) (hV : V + 3000 * ((m + 1 : Nat) : Int) < 1000000000) (hS : StS G rk H ts e e2 rb rl N N2 SL k En f0 f mg V bs ls) {len : Nat} (l1 : 1 ≤ len) (l2 : En + len ≤ N) (l3 : En + len < N → 16 ≤ len) (hs : SrtA rk f En len) (v : Value) :
    ∃ (H2 : AH) (g : Nat → Value) (e3 N3 : Nat), G2 (d + 8) 72013 141 [.ref e, .int (zI En), .int (zI N), .null, .int (zI 0), .int (zI 0), .int (zI ((N - En : Nat) : Int)), .ref ts, .int (zI mr), .int (zI len), v] [] H = some (.inl none, H2) ∧ jm H2 e = some (1040, N, g) ∧ SrtA rk g 0 N ∧ PmR f0 g 0 N ∧ Fr H H2 (SrtP e ts e2 rb rl) ∧ GroT H H2 N N2 N3 e2 e3 := by
  have hN1 := hS.1.2.2.2.1
  obtain ⟨H2, p1, p2, p3, p4, p5⟩ := c_push (d := d + 7) hS hz l1 hs l2 hSL (by omega)
  have pu : ∀ i, i < k + 1 → min 16 len ≤ puB k len ls i := fun i hi => by
    unfold puB
    by_cases c : i = k
    · rw [if_pos c]; omega
    · rw [if_neg c]
      have := hx i (by omega)
      omega
  obtain ⟨H3, f3, mg3, e3, N3, k3, bs3, ls3, q1, q2, q3, q4, qx, q5, q6⟩ := c_col (d := d) (x := min 16 len) (k + 1) H2 f mg e2 N2 _ _ jno (by omega) p2 (fun i hi => by
    unfold puB
    rw [if_neg (by omega), if_neg (by omega), if_neg (by omega)]
    exact hF.1 i (by omega)) pu
  obtain ⟨⟨-, -, -, -, -, -, -, ms2, -⟩, -⟩ := id p2
  obtain ⟨⟨-, -, -, -, -, -, -, ms3, -⟩, -⟩ := id q2
  have y6 : M2 (d + 8) 72006 [.ref ts] H2 = some (.inl none, H3) := by rw [Y72006 H2 (jrecv_in ms2 rfl)]; exact q1
  have gro : GroT H H3 N N2 N3 e2 e3 := by
    unfold GroT at q6 ⊢
    rw [p4, p5] at q6
    exact q6
  have fr3 : Fr H H3 (SrtP e ts e2 rb rl) := p3.tr q5
  rw [F72013_141]
  simp (disch := first | assumption | omega | decide | exact okF_i | exact okF_r | exact okF_n | exact okF_j | rfl) only [jc_ref, rI_int, rR_ref, rR_null, rJ_long, ckR_ref, ckR_null, ckr_ref, ckr_null, ckW_int, ckW_ref, ckW_null, cI_ok, cR_ok, cR_null, cV_ok, cJ_ok, qH_eq, qD_in, aG_ref, aS_ref, aL_ref, pF_ref, cK_ref, cK_null, zI_lit, zJ_lit, zI_add, zI_sub, zI_mul, zI_neg, zI_eq, zI_lt, zI_le, Int.reduceLT, Int.reduceLE, Int.reduceAdd, Int.reduceSub, Int.reduceMul, Int.reduceNeg, Int.reduceEq, Int.reduceNe, reduceIte, jf_in, pFc_in, aGi, aGb, aSi, aLc_in, cKc_in, nA_in, jm_s1, jm_s2, jm_p1, jm_p2, jm_b, jn_b, jn_s, jn_p, jset_jset, jset_jpush2, ckR_is, ckr_is, rR_is, ckW_is, cR_is, obi2, ckW_int, eq_self, if_true, ref_null, if_false, ne_eq, not_true_eq_false, not_false_eq_true, decide_true, decide_false, decide_not, Bool.true_and, Bool.false_and, Bool.and_true, Bool.and_false, Bool.true_or, Bool.false_or, Bool.or_true, Bool.or_false, Bool.not_true, Bool.not_false, Bool.false_eq_true, bI_t, bI_f, Int.natCast_one, Int.cast_ofNat_Int, Int.natCast_zero, Int.toNat_natCast, o72_0, o72_1, o72_2, o72_3, o72_4, o72_5, o72_6, o72_7, n72, o72s_0, o72s_1, o72s_2, o72s_3, o72s_4, o72s_5, o72s_6, o72s_7, p1, y6]
  by_cases hend : En + len = N
  · obtain ⟨H4, f4, mg4, e4, N4, bs4, ls4, z1, z2, z3, z4⟩ := c_force (d := d) k3 H3 f3 mg3 e3 N3 bs3 ls3 jno q3.1 q2
    have y7 : M2 (d + 8) 72007 [.ref ts] H3 = some (.inl none, H4) := by rw [Y72007 H3 (jrecv_in ms3 rfl)]; exact z1
    obtain ⟨⟨-, -, -, -, -, m4, -⟩, -, w4, ⟨he4, -⟩, -, -, hp4⟩ := z2
    refine ⟨H4, f4, e4, N4, ?_, m4, ?_, hp4, SrtP.tr fr3 z3 gro, gro.tr z4⟩
    · rw [if_pos (by omega)]
      simp (disch := first | assumption | omega | decide | exact okF_i | exact okF_r | exact okF_n | exact okF_j | rfl) only [jc_ref, rI_int, rR_ref, rR_null, rJ_long, ckR_ref, ckR_null, ckr_ref, ckr_null, ckW_int, ckW_ref, ckW_null, cI_ok, cR_ok, cR_null, cV_ok, cJ_ok, qH_eq, qD_in, aG_ref, aS_ref, aL_ref, pF_ref, cK_ref, cK_null, zI_lit, zJ_lit, zI_add, zI_sub, zI_mul, zI_neg, zI_eq, zI_lt, zI_le, Int.reduceLT, Int.reduceLE, Int.reduceAdd, Int.reduceSub, Int.reduceMul, Int.reduceNeg, Int.reduceEq, Int.reduceNe, reduceIte, jf_in, pFc_in, aGi, aGb, aSi, aLc_in, cKc_in, nA_in, jm_s1, jm_s2, jm_p1, jm_p2, jm_b, jn_b, jn_s, jn_p, jset_jset, jset_jpush2, ckR_is, ckr_is, rR_is, ckW_is, cR_is, obi2, ckW_int, eq_self, if_true, ref_null, if_false, ne_eq, not_true_eq_false, not_false_eq_true, decide_true, decide_false, decide_not, Bool.true_and, Bool.false_and, Bool.and_true, Bool.and_false, Bool.true_or, Bool.false_or, Bool.or_true, Bool.or_false, Bool.not_true, Bool.not_false, Bool.false_eq_true, bI_t, bI_f, Int.natCast_one, Int.cast_ofNat_Int, Int.natCast_zero, Int.toNat_natCast, o72_0, o72_1, o72_2, o72_3, o72_4, o72_5, o72_6, o72_7, n72, o72s_0, o72s_1, o72s_2, o72s_3, o72s_4, o72s_5, o72s_6, o72s_7, y7]
    · have s := (w4.1 0 (by omega)).2
      have b0 := w4.2.2
      have he5 : bs4 0 + ls4 0 = En + len := he4
      rw [b0, show ls4 0 = N by omega] at s
      exact s
  · obtain ⟨H4, g4, e4, N4, z1, z2, z3, z4, z5, z6⟩ := ih H3 f3 mg3 (V + 3 * N) e3 N3 k3 (En + len) bs3 ls3 (.int (zI len)) v (by omega) (by omega) (by omega) q2 q4 (fun i hi => by
      have a := qx i hi
      have b := l3 (by omega)
      omega) (by omega)
    refine ⟨H4, g4, e4, N4, ?_, z2, z3, z4, SrtP.tr fr3 z5 gro, gro.tr z6⟩
    have c1 : ((N - (En + len) : Nat) : Int) = ((N - En : Nat) : Int) - len := by omega
    have c2 : ((En + len : Nat) : Int) = (En : Int) + len := by omega
    rw [c1, c2] at z1
    rw [if_neg (by omega)]
    exact z1
theorem so_93 {mr : Nat} (m1 : 16 ≤ mr) (m2 : mr ≤ 32) (hSL : (SL = 5 ∧ N < 120) ∨ (SL = 10 ∧ N ≤ 1000)) : ∀ (m : Nat) (H : AH) (f : Nat → Value) (mg V : Int) (e2 N2 k En : Nat) (bs ls : Nat → Nat) (v9 v10 : Value), N - En ≤ m → En < N → (k = 0 → En = 0) → StS G rk H ts e e2 rb rl N N2 SL k En f0 f mg V bs ls → FulL k ls → (∀ i, i < k → 16 ≤ ls i) → V + 3000 * m < 1000000000 →
    ∃ (H2 : AH) (g : Nat → Value) (e3 N3 : Nat), G2 (d + 8) 72013 93 [.ref e, .int (zI En), .int (zI N), .null, .int (zI 0), .int (zI 0), .int (zI ((N - En : Nat) : Int)), .ref ts, .int (zI mr), v9, v10] [] H = some (.inl none, H2) ∧ jm H2 e = some (1040, N, g) ∧ SrtA rk g 0 N ∧ PmR f0 g 0 N ∧ Fr H H2 (SrtP e ts e2 rb rl) ∧ GroT H H2 N N2 N3 e2 e3 := by
  intro m
  induction m with
  | zero => intro H f mg V e2 N2 k En bs ls v9 v10 h1 h2; omega
  | succ m ih =>
    intro H f mg V e2 N2 k En bs ls v9 v10 h1 h2 hz h hF hx hV
    obtain ⟨⟨hG, ⟨g1, -, -⟩, -, hN1, -, me, -, -, l1, l2, l3⟩, -, hW, ⟨hE, -⟩, hA, -, -⟩ := id h
    have sk := stk_le hF hx hW hE
    have hkS : k < SL := by omega
    obtain ⟨j, g, j1, j2, r1, r2, r3⟩ := c_run (d := d + 5) (rk := rk) hG (by omega) me h2 (Nat.le_refl _) (fun i a b => hA i (by omega) (by omega))
    have hS1 := h.arr r3
    have fr1 : Fr H (jset H e (1040, N, g)) (SrtP e ts e2 rb rl) := Fr.set (Or.inl rfl)
    have go := fun (H1 : AH) (g2 : Nat → Value) (hS : StS G rk H1 ts e e2 rb rl N N2 SL k En f0 g2 mg V bs ls) (len : Nat) (l1 : 1 ≤ len) (l2 : En + len ≤ N) (l3 : En + len < N → 16 ≤ len) (hs : SrtA rk g2 En len) (v : Value) => so_141 (d := d) m1 m2 hkS h2 ih h1 hz hF hx hV hS l1 l2 l3 hs v
    obtain ⟨n, hn⟩ : ∃ n : Nat, n = j - En := ⟨_, rfl⟩
    rw [← hn] at r1 r2
    rw [F72013_93]
    simp (disch := first | assumption | omega | decide | exact okF_i | exact okF_r | exact okF_n | exact okF_j | rfl) only [jc_ref, rI_int, rR_ref, rR_null, rJ_long, ckR_ref, ckR_null, ckr_ref, ckr_null, ckW_int, ckW_ref, ckW_null, cI_ok, cR_ok, cR_null, cV_ok, cJ_ok, qH_eq, qD_in, aG_ref, aS_ref, aL_ref, pF_ref, cK_ref, cK_null, zI_lit, zJ_lit, zI_add, zI_sub, zI_mul, zI_neg, zI_eq, zI_lt, zI_le, Int.reduceLT, Int.reduceLE, Int.reduceAdd, Int.reduceSub, Int.reduceMul, Int.reduceNeg, Int.reduceEq, Int.reduceNe, reduceIte, jf_in, pFc_in, aGi, aGb, aSi, aLc_in, cKc_in, nA_in, jm_s1, jm_s2, jm_p1, jm_p2, jm_b, jn_b, jn_s, jn_p, jset_jset, jset_jpush2, ckR_is, ckr_is, rR_is, ckW_is, cR_is, obi2, ckW_int, eq_self, if_true, ref_null, if_false, ne_eq, not_true_eq_false, not_false_eq_true, decide_true, decide_false, decide_not, Bool.true_and, Bool.false_and, Bool.and_true, Bool.and_false, Bool.true_or, Bool.false_or, Bool.or_true, Bool.or_false, Bool.not_true, Bool.not_false, Bool.false_eq_true, bI_t, bI_f, Int.natCast_one, Int.cast_ofNat_Int, Int.natCast_zero, Int.toNat_natCast, o72_0, o72_1, o72_2, o72_3, o72_4, o72_5, o72_6, o72_7, n72, o72s_0, o72s_1, o72s_2, o72s_3, o72s_4, o72s_5, o72s_6, o72s_7, r1]
    by_cases hm : mr ≤ n
    · rw [if_pos (by omega)]
      obtain ⟨H2, g2, e3, N3, z1, z2, z3, z4, z5, z6⟩ := go _ _ hS1 n (by omega) (by omega) (fun _ => by omega) r2 v10
      exact ⟨H2, g2, e3, N3, z1, z2, z3, z4, fr1.tr z5, z6⟩
    · rw [if_neg (by omega)]
      by_cases hr : mr < N - En
      · rw [if_pos (by omega)]
        obtain ⟨g2, b1, b2, b3⟩ := c_bin (d := d + 5) (rk := rk) (H := jset H e (1040, N, g)) (e := e) (hG.arr g1) g1 (by omega) (lo := En) (hi := En + mr) (st := En + n) (by omega) (by omega) (by omega) jm_s1 (fun i a b => hS1.2.2.2.2.1 i (by omega) (by omega)) (by rw [show En + n - En = n by omega]; exact r2) (by omega)
        rw [show En + mr - En = mr by omega] at b2 b3
        have hS2 := hS1.arr (b3.wd (lo2 := En) (n2 := N - En) (Nat.le_refl _) (by omega))
        rw [jset_jset] at b1 hS2
        obtain ⟨H2, g3, e3, N3, z1, z2, z3, z4, z5, z6⟩ := go _ _ hS2 mr (by omega) (by omega) (fun _ => by omega) b2 (.int (zI mr))
        refine ⟨H2, g3, e3, N3, ?_, z2, z3, z4, (Fr.set (Or.inl rfl)).tr z5, z6⟩
        have c1 : ((En + mr : Nat) : Int) = (En : Int) + mr := by omega
        have c2 : ((En + n : Nat) : Int) = (En : Int) + n := by omega
        rw [c1, c2] at b1
        simp (disch := first | assumption | omega | decide | exact okF_i | exact okF_r | exact okF_n | exact okF_j | rfl) only [jc_ref, rI_int, rR_ref, rR_null, rJ_long, ckR_ref, ckR_null, ckr_ref, ckr_null, ckW_int, ckW_ref, ckW_null, cI_ok, cR_ok, cR_null, cV_ok, cJ_ok, qH_eq, qD_in, aG_ref, aS_ref, aL_ref, pF_ref, cK_ref, cK_null, zI_lit, zJ_lit, zI_add, zI_sub, zI_mul, zI_neg, zI_eq, zI_lt, zI_le, Int.reduceLT, Int.reduceLE, Int.reduceAdd, Int.reduceSub, Int.reduceMul, Int.reduceNeg, Int.reduceEq, Int.reduceNe, reduceIte, jf_in, pFc_in, aGi, aGb, aSi, aLc_in, cKc_in, nA_in, jm_s1, jm_s2, jm_p1, jm_p2, jm_b, jn_b, jn_s, jn_p, jset_jset, jset_jpush2, ckR_is, ckr_is, rR_is, ckW_is, cR_is, obi2, ckW_int, eq_self, if_true, ref_null, if_false, ne_eq, not_true_eq_false, not_false_eq_true, decide_true, decide_false, decide_not, Bool.true_and, Bool.false_and, Bool.and_true, Bool.and_false, Bool.true_or, Bool.false_or, Bool.or_true, Bool.or_false, Bool.not_true, Bool.not_false, Bool.false_eq_true, bI_t, bI_f, Int.natCast_one, Int.cast_ofNat_Int, Int.natCast_zero, Int.toNat_natCast, o72_0, o72_1, o72_2, o72_3, o72_4, o72_5, o72_6, o72_7, n72, o72s_0, o72s_1, o72s_2, o72s_3, o72s_4, o72s_5, o72s_6, o72s_7, b1]
        exact z1
      · rw [if_neg (by omega)]
        obtain ⟨p, hp⟩ : ∃ p : Nat, p = N - En := ⟨_, rfl⟩
        obtain ⟨g2, b1, b2, b3⟩ := c_bin (d := d + 5) (rk := rk) (H := jset H e (1040, N, g)) (e := e) (hG.arr g1) g1 (by omega) (lo := En) (hi := En + p) (st := En + n) (by omega) (by omega) (by omega) jm_s1 (fun i a b => hS1.2.2.2.2.1 i (by omega) (by omega)) (by rw [show En + n - En = n by omega]; exact r2) (by omega)
        rw [show En + p - En = p by omega] at b2 b3
        have hS2 := hS1.arr (b3.wd (lo2 := En) (n2 := N - En) (Nat.le_refl _) (by omega))
        rw [jset_jset] at b1 hS2
        obtain ⟨H2, g3, e3, N3, z1, z2, z3, z4, z5, z6⟩ := go _ _ hS2 p (by omega) (by omega) (fun _ => by omega) b2 (.int (zI p))
        refine ⟨H2, g3, e3, N3, ?_, z2, z3, z4, (Fr.set (Or.inl rfl)).tr z5, z6⟩
        have c1 : ((En + p : Nat) : Int) = (En : Int) + p := by omega
        have c2 : ((En + n : Nat) : Int) = (En : Int) + n := by omega
        rw [c1, c2] at b1
        rw [← hp] at z1 ⊢
        simp (disch := first | assumption | omega | decide | exact okF_i | exact okF_r | exact okF_n | exact okF_j | rfl) only [jc_ref, rI_int, rR_ref, rR_null, rJ_long, ckR_ref, ckR_null, ckr_ref, ckr_null, ckW_int, ckW_ref, ckW_null, cI_ok, cR_ok, cR_null, cV_ok, cJ_ok, qH_eq, qD_in, aG_ref, aS_ref, aL_ref, pF_ref, cK_ref, cK_null, zI_lit, zJ_lit, zI_add, zI_sub, zI_mul, zI_neg, zI_eq, zI_lt, zI_le, Int.reduceLT, Int.reduceLE, Int.reduceAdd, Int.reduceSub, Int.reduceMul, Int.reduceNeg, Int.reduceEq, Int.reduceNe, reduceIte, jf_in, pFc_in, aGi, aGb, aSi, aLc_in, cKc_in, nA_in, jm_s1, jm_s2, jm_p1, jm_p2, jm_b, jn_b, jn_s, jn_p, jset_jset, jset_jpush2, ckR_is, ckr_is, rR_is, ckW_is, cR_is, obi2, ckW_int, eq_self, if_true, ref_null, if_false, ne_eq, not_true_eq_false, not_false_eq_true, decide_true, decide_false, decide_not, Bool.true_and, Bool.false_and, Bool.and_true, Bool.and_false, Bool.true_or, Bool.false_or, Bool.or_true, Bool.or_false, Bool.not_true, Bool.not_false, Bool.false_eq_true, bI_t, bI_f, Int.natCast_one, Int.cast_ofNat_Int, Int.natCast_zero, Int.toNat_natCast, o72_0, o72_1, o72_2, o72_3, o72_4, o72_5, o72_6, o72_7, n72, o72s_0, o72s_1, o72s_2, o72s_3, o72s_4, o72s_5, o72s_6, o72s_7, b1]
        exact z1
end
