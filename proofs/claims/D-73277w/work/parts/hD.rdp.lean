/-! the component's reader: its small methods, by contract -/
-- jc_ref, rI_int, rR_ref, rR_null, rJ_long, ckR_ref, ckR_null, ckr_ref, ckr_null, ckW_int, ckW_ref, ckW_null, cI_ok, cR_ok, cR_null, cV_ok, cJ_ok, qH_eq, qD_in, aG_ref, aS_ref, aL_ref, pF_ref, cK_ref, cK_null, zI_lit, zJ_lit, zI_add, zI_sub, zI_mul, zI_neg, zI_eq, zI_lt, zI_le, Int.reduceLT, Int.reduceLE, Int.reduceAdd, Int.reduceSub, Int.reduceMul, Int.reduceNeg, Int.reduceEq, Int.reduceNe, reduceIte, jf_in, pFc_in, aGi, aGb, aSi, aLc_in, cKc_in, nA_in, jm_s1, jm_s2, jm_p1, jm_p2, jm_b, jn_b, jn_s, jn_p, jset_jset, jset_jpush2, ckR_is, ckr_is, rR_is, ckW_is, cR_is, obi2, ckW_int, eq_self, if_true, ref_null, if_false, ne_eq, not_true_eq_false, not_false_eq_true, decide_true, decide_false, decide_not, Bool.true_and, Bool.false_and, Bool.and_true, Bool.and_false, Bool.true_or, Bool.false_or, Bool.or_true, Bool.or_false, Bool.not_true, Bool.not_false, Bool.false_eq_true, bI_t, bI_f, Int.natCast_one, Int.cast_ofNat_Int, Int.natCast_zero, ju_self, ju_ne = jc_ref, rI_int, rR_ref, rR_null, rJ_long, ckR_ref, ckR_null, ckr_ref, ckr_null, ckW_int, ckW_ref, ckW_null, cI_ok, cR_ok, cR_null, cV_ok, cJ_ok, qH_eq, qD_in, aG_ref, aS_ref, aL_ref, pF_ref, cK_ref, cK_null, zI_lit, zJ_lit, zI_add, zI_sub, zI_mul, zI_neg, zI_eq, zI_lt, zI_le, Int.reduceLT, Int.reduceLE, Int.reduceAdd, Int.reduceSub, Int.reduceMul, Int.reduceNeg, Int.reduceEq, Int.reduceNe, reduceIte, jf_in, pFc_in, aGi, aGb, aSi, aLc_in, cKc_in, nA_in, jm_s1, jm_s2, jm_p1, jm_p2, jm_b, jn_b, jn_s, jn_p, jset_jset, jset_jpush2, ckR_is, ckr_is, rR_is, ckW_is, cR_is, obi2, ckW_int, eq_self, if_true, ref_null, if_false, ne_eq, not_true_eq_false, not_false_eq_true, decide_true, decide_false, decide_not, Bool.true_and, Bool.false_and, Bool.and_true, Bool.and_false, Bool.true_or, Bool.false_or, Bool.or_true, Bool.or_false, Bool.not_true, Bool.not_false, Bool.false_eq_true, bI_t, bI_f, Int.natCast_one, Int.cast_ofNat_Int, Int.natCast_zero, ju_self, ju_ne
/-- a fault that is thrown -/
def FaF (H : AH) (x : Nat) (e : Er) : Prop := ∃ f, jm H x = some (10, 8, f) ∧ f 6 = .int (zI e.1) ∧ f 7 = .int (zI e.2) ∧ x < H.1
/-- a method's contract: r is what it comes to; P: what may be written; c, s: cells and slots that are new -/
def CR {α : Type} (r : Except Er α) (R : Rz) (H : AH) (P : Nat → Prop) (c s : Nat) (K : α → Option Value → AH → Prop) : Prop :=
  ∃ H2, Fr H H2 P ∧ H2.1 ≤ H.1 + c ∧ H2.2.1 ≤ H.2.1 + s ∧ match r with
    | .error e => ∃ x, R = some (.inr x, H2) ∧ FaF H2 x e
    | .ok v => ∃ w, R = some (.inl w, H2) ∧ K v w H2
/-- all that reading rests on -/
def RdC (B : Nat → Prop) (H : AH) (a t n tp sc : Nat) (g : Int → Int) (z l : Int) (x y : Value) (q : Int) : Prop := RdK (Fz B H) (je H) tp g z l ∧ B a ∧ (∀ u, B u → u < H.1) ∧ RdT B H a t n tp sc g z l x y q
section
variable {d : Nat} {H H2 : AH} {a t n tp sc sb c s c2 s2 : Nat} {f : Nat → Value} {g : Int → Int} {z l p q : Int} {F : Nat → Option Cl} {B P Q : Nat → Prop} {x y : Value} {α β : Type}
theorem RdC.fr (h : RdC B H a t n tp sc g z l x y q) (fr : Fr H H2 P) (hP : ∀ u, u < H.1 → P u → B u) (hn : ¬ P a) : RdC B H2 a t n tp sc g z l x y q := ⟨by rw [fr.2.1]; exact h.1.fr fr hP, h.2.1, fun u hu => Nat.lt_of_lt_of_le (h.2.2.1 u hu) fr.1, h.2.2.2.fr fr hP hn⟩
theorem rc_go (h : RdC B H a t n tp sc g z l x y q) : ∃ H2, M2 (d + 2) 8004 [.ref a] H = some (.inl none, H2) ∧ Fr H H2 (fun u => u = a) ∧ H2.1 ≤ H.1 + 4 ∧ H2.2.1 ≤ H.2.1 + 31 ∧ RdC B H2 a t n tp sc g z l x y (nxt g z l q) := by
  obtain ⟨K, ha, hB, R⟩ := h
  obtain ⟨H2, a1, a2, a3, a4, a5⟩ := rt_go (d := d) K ha hB R
  exact ⟨H2, a1, a2, a3, a4, by rw [a2.2.1]; exact K.fr a2 (fun u _ e => by rw [e]; exact ha), ha, fun u hu => Nat.lt_of_lt_of_le (hB u hu) a2.1, a5⟩
theorem RdT.kd5 (h : RdT B H a t n tp sc g z l x y q) : ∃ f, jm H a = some (t, n, f) ∧ f 5 = .int (zI (ckd g z l q)) ∧ f 6 = .int (zI (plc g z l q)) ∧ ([9, 15, 27, 29] : List Nat).elem t = true ∧ (0 ≤ plc g z l q ∧ plc g z l q ≤ 1000 ∨ True) := by
  obtain ⟨f, h1, h2, -⟩ := h
  exact ⟨f, h1.1, h2.1, h2.2.1, h1.tg.1, Or.inr trivial⟩
theorem ckd_rg : 0 ≤ ckd g z l q ∧ ckd g z l q ≤ 6 := by
  unfold ckd
  split; omega
  split; omega
  split; omega
  split
  · split <;> omega
  · split <;> omega
theorem ckd_is : (ckd g z l q = 2 ↔ kd g z l q = 1) ∧ (ckd g z l q = 3 ↔ kd g z l q = 2) ∧ (ckd g z l q = 0 ↔ kd g z l q = 0) ∧ ((ckd g z l q = 1 ∨ ckd g z l q = 5) ↔ kd g z l q = 4) ∧ (ckd g z l q = 4 ↔ (kd g z l q = 3 ∧ nmv g z q = 59)) ∧ (ckd g z l q = 6 ↔ (kd g z l q = 3 ∧ nmv g z q ≠ 59)) := by
  have kr := kd_rg (g := g) (z := z) (l := l) q
  unfold ckd
  by_cases k0 : kd g z l q = 0
  · rw [if_pos k0, k0]; omega
  · rw [if_neg k0]
    by_cases k1 : kd g z l q = 1
    · rw [if_pos k1, k1]; omega
    · rw [if_neg k1]
      by_cases k2 : kd g z l q = 2
      · rw [if_pos k2, k2]; omega
      · rw [if_neg k2]
        by_cases k3 : kd g z l q = 3
        · rw [if_pos k3, k3]
          by_cases e : nmv g z q = 59
          · rw [if_pos e]; omega
          · rw [if_neg e]; omega
        · rw [if_neg k3]
          have k4 : kd g z l q = 4 := by omega
          rw [k4]
          split <;> omega
theorem fault_new (h3 : isR (je H 3) = true) (h4 : isR (je H 4) = true) {k p : Int} (hm : jm H a = some (10, 8, jL [.null, .null, .null, .null, .null, .int (zI 0), .int (zI 0), .int (zI 0)])) (al : a < H.1) : ∃ f, M2 (d + 4) 10900 [.ref a, .int (zI k), .int (zI p)] H = some (.inl none, jset H a (10, 8, f)) ∧ f 6 = .int (zI k) ∧ f 7 = .int (zI p) := by
  have o3 := okF_R h3
  have o4 := okF_R h4
  have r1 : (jtRecv 10900).elem 10 = true := rfl
  have r2 : (jtRecv 57900).elem 10 = true := rfl
  have r3 : (jtRecv 56901).elem 10 = true := rfl
  have es : ∀ c, je (jset H a c) = je H := fun c => rfl
  have oa : okF 2 (.ref a) = true := rfl
  refine ⟨ju (ju (ju (ju (ju (ju (ju (ju (ju (jL [.null, .null, .null, .null, .null, .int (zI 0), .int (zI 0), .int (zI 0)]) 0 (.ref a)) 1 (je H 3)) 2 (je H 4)) 1 .null) 3 .null) 0 .null) 2 .null) 6 (.int (zI k))) 7 (.int (zI p)), ?_, (ju_ne (by decide)).trans ju_self, ju_self⟩
  · have t1 : M2 (d + 2) 56901 [.ref a, .null, .null, .int (zI 0), .int (zI 0)] H = some (.inl none, jset H a (10, 8, ju (ju (ju (ju (ju (ju (ju (jL [.null, .null, .null, .null, .null, .int (zI 0), .int (zI 0), .int (zI 0)]) 0 (.ref a)) 1 (je H 3)) 2 (je H 4)) 1 .null) 3 .null) 0 .null) 2 .null)) := by
      rw [Y56901 H rfl rfl (jrecv_in hm r3), F56901_0]
      simp (disch := first | assumption | omega | decide | exact okF_i | exact okF_r | exact okF_n | exact okF_j | rfl) only [jc_ref, rI_int, rR_ref, rR_null, rJ_long, ckR_ref, ckR_null, ckr_ref, ckr_null, ckW_int, ckW_ref, ckW_null, cI_ok, cR_ok, cR_null, cV_ok, cJ_ok, qH_eq, qD_in, aG_ref, aS_ref, aL_ref, pF_ref, cK_ref, cK_null, zI_lit, zJ_lit, zI_add, zI_sub, zI_mul, zI_neg, zI_eq, zI_lt, zI_le, Int.reduceLT, Int.reduceLE, Int.reduceAdd, Int.reduceSub, Int.reduceMul, Int.reduceNeg, Int.reduceEq, Int.reduceNe, reduceIte, jf_in, pFc_in, aGi, aGb, aSi, aLc_in, cKc_in, nA_in, jm_s1, jm_s2, jm_p1, jm_p2, jm_b, jn_b, jn_s, jn_p, jset_jset, jset_jpush2, ckR_is, ckr_is, rR_is, ckW_is, cR_is, obi2, ckW_int, eq_self, if_true, ref_null, if_false, ne_eq, not_true_eq_false, not_false_eq_true, decide_true, decide_false, decide_not, Bool.true_and, Bool.false_and, Bool.and_true, Bool.and_false, Bool.true_or, Bool.false_or, Bool.or_true, Bool.or_false, Bool.not_true, Bool.not_false, Bool.false_eq_true, bI_t, bI_f, Int.natCast_one, Int.cast_ofNat_Int, Int.natCast_zero, ju_self, ju_ne, hm, es, rR_is]
    have t2 : M2 (d + 3) 57900 [.ref a, .null, .null, .int (zI 0), .int (zI 0)] H = some (.inl none, jset H a (10, 8, ju (ju (ju (ju (ju (ju (ju (jL [.null, .null, .null, .null, .null, .int (zI 0), .int (zI 0), .int (zI 0)]) 0 (.ref a)) 1 (je H 3)) 2 (je H 4)) 1 .null) 3 .null) 0 .null) 2 .null)) := by
      rw [Y57900 H rfl rfl (jrecv_in hm r2), F57900_0]
      simp (disch := first | assumption | omega | decide | exact okF_i | exact okF_r | exact okF_n | exact okF_j | rfl) only [jc_ref, rI_int, rR_ref, rR_null, rJ_long, ckR_ref, ckR_null, ckr_ref, ckr_null, ckW_int, ckW_ref, ckW_null, cI_ok, cR_ok, cR_null, cV_ok, cJ_ok, qH_eq, qD_in, aG_ref, aS_ref, aL_ref, pF_ref, cK_ref, cK_null, zI_lit, zJ_lit, zI_add, zI_sub, zI_mul, zI_neg, zI_eq, zI_lt, zI_le, Int.reduceLT, Int.reduceLE, Int.reduceAdd, Int.reduceSub, Int.reduceMul, Int.reduceNeg, Int.reduceEq, Int.reduceNe, reduceIte, jf_in, pFc_in, aGi, aGb, aSi, aLc_in, cKc_in, nA_in, jm_s1, jm_s2, jm_p1, jm_p2, jm_b, jn_b, jn_s, jn_p, jset_jset, jset_jpush2, ckR_is, ckr_is, rR_is, ckW_is, cR_is, obi2, ckW_int, eq_self, if_true, ref_null, if_false, ne_eq, not_true_eq_false, not_false_eq_true, decide_true, decide_false, decide_not, Bool.true_and, Bool.false_and, Bool.and_true, Bool.and_false, Bool.true_or, Bool.false_or, Bool.or_true, Bool.or_false, Bool.not_true, Bool.not_false, Bool.false_eq_true, bI_t, bI_f, Int.natCast_one, Int.cast_ofNat_Int, Int.natCast_zero, ju_self, ju_ne, t1]
    rw [Y10900 H (jrecv_in hm r1), F10900_0]
    simp (disch := first | assumption | omega | decide | exact okF_i | exact okF_r | exact okF_n | exact okF_j | rfl) only [jc_ref, rI_int, rR_ref, rR_null, rJ_long, ckR_ref, ckR_null, ckr_ref, ckr_null, ckW_int, ckW_ref, ckW_null, cI_ok, cR_ok, cR_null, cV_ok, cJ_ok, qH_eq, qD_in, aG_ref, aS_ref, aL_ref, pF_ref, cK_ref, cK_null, zI_lit, zJ_lit, zI_add, zI_sub, zI_mul, zI_neg, zI_eq, zI_lt, zI_le, Int.reduceLT, Int.reduceLE, Int.reduceAdd, Int.reduceSub, Int.reduceMul, Int.reduceNeg, Int.reduceEq, Int.reduceNe, reduceIte, jf_in, pFc_in, aGi, aGb, aSi, aLc_in, cKc_in, nA_in, jm_s1, jm_s2, jm_p1, jm_p2, jm_b, jn_b, jn_s, jn_p, jset_jset, jset_jpush2, ckR_is, ckr_is, rR_is, ckW_is, cR_is, obi2, ckW_int, eq_self, if_true, ref_null, if_false, ne_eq, not_true_eq_false, not_false_eq_true, decide_true, decide_false, decide_not, Bool.true_and, Bool.false_and, Bool.and_true, Bool.and_false, Bool.true_or, Bool.false_or, Bool.or_true, Bool.or_false, Bool.not_true, Bool.not_false, Bool.false_eq_true, bI_t, bI_f, Int.natCast_one, Int.cast_ofNat_Int, Int.natCast_zero, ju_self, ju_ne, t2]
/-- what is needed, or a fault -/
theorem rc_need (h : RdC B H a t n tp sc g z l x y q) {b : Bool} {k : Int} (k0 : 0 ≤ k) (k1 : k ≤ 100) : if b = true then M2 (d + 5) 8012 [.ref a, .int (zI (bZ b)), .int (zI k)] H = some (.inl none, H) else ∃ H2, M2 (d + 5) 8012 [.ref a, .int (zI (bZ b)), .int (zI k)] H = some (.inr H.1, H2) ∧ Fr H H2 (fun _ => False) ∧ H2.1 = H.1 + 1 ∧ H2.2.1 = H.2.1 + 8 ∧ FaF H2 H.1 (erx g z l q k) := by
  obtain ⟨K, ha, hB, R⟩ := h
  obtain ⟨f, m0, f5, f6, t1, -⟩ := R.kd5
  have al := hB a ha
  obtain ⟨f', h1, -⟩ := R
  have rv : (jtRecv 8012).elem t = true := by rcases h1.2.1 with e | e | e | e <;> subst e <;> rfl
  cases b with
  | true =>
    rw [if_pos rfl, Y8012 H (jrecv_in m0 rv), F8012_0, bZ_t, if_neg (show ¬ zI 1 = 0 by decide)]
  | false =>
    rw [if_neg (by decide)]
    obtain ⟨HN, hHN⟩ : ∃ HN, HN = jpush H (10, 8, jL [.null, .null, .null, .null, .null, .int (zI 0), .int (zI 0), .int (zI 0)]) := ⟨_, rfl⟩
    have mN : jm HN H.1 = some (10, 8, jL [.null, .null, .null, .null, .null, .int (zI 0), .int (zI 0), .int (zI 0)]) := by rw [hHN]; exact jm_p1
    have mA : jm HN a = some (t, n, f) := by rw [hHN]; exact (jm_p2 (by omega)).trans m0
    have jE : je HN = je H := by rw [hHN]; rfl
    have nN : HN.1 = H.1 + 1 ∧ HN.2.1 = H.2.1 + 8 := by rw [hHN]; exact ⟨rfl, rfl⟩
    obtain ⟨i1, i2, -⟩ := K.2.2.2.2.1
    have key : ∀ kk : Int, (erx g z l q k) = (kk, plc g z l q) → ∃ H2, (zcV (M2 (d + 4) 10900 [.ref H.1, .int (zI kk), .int (zI (plc g z l q))] HN) (fun h5 => aT h5 H.1 (cX H.1 h5)) ()) = some (.inr H.1, H2) ∧ Fr H H2 (fun _ => False) ∧ H2.1 = H.1 + 1 ∧ H2.2.1 = H.2.1 + 8 ∧ FaF H2 H.1 (erx g z l q k) := by
      intro kk ek
      obtain ⟨f2, x1, x2, x3⟩ := fault_new (d := d) (k := kk) (p := plc g z l q) (by rw [jE]; exact i1) (by rw [jE]; exact i2) mN (by omega)
      have ms : jm (jset HN H.1 (10, 8, f2)) H.1 = some (10, 8, f2) := jm_s1
      refine ⟨jset HN H.1 (10, 8, f2), ?_, ?_, nN.1, nN.2, f2, ms, by rw [ek]; exact x2, by rw [ek]; exact x3, by show H.1 < HN.1; omega⟩
      · rw [x1, cV_ok]
        unfold aT
        rw [ms]
        rfl
      · rw [hHN]
        exact Fr.new (P := fun _ => False) Fr.rf (Fr.push.tr (Fr.set (Or.inr (Nat.le_refl _))))
    obtain ⟨-, -, -, c4, -, -⟩ := ckd_is (g := g) (z := z) (l := l) (q := q)
    have cr := ckd_rg (g := g) (z := z) (l := l) (q := q)
    rw [Y8012 H (jrecv_in m0 rv), F8012_0, bZ_f, if_pos (show zI 0 = 0 from rfl)]
    by_cases k1' : ckd g z l q = 1
    · have e4 := c4.mp (Or.inl k1')
      obtain ⟨H2, r1, r2⟩ := key 1 (by unfold erx; rw [if_pos e4])
      refine ⟨H2, ?_, r2⟩
      rw [← r1]
      simp (disch := first | assumption | omega | decide | exact okF_i | exact okF_r | exact okF_n | exact okF_j | rfl) only [jc_ref, rI_int, rR_ref, rR_null, rJ_long, ckR_ref, ckR_null, ckr_ref, ckr_null, ckW_int, ckW_ref, ckW_null, cI_ok, cR_ok, cR_null, cV_ok, cJ_ok, qH_eq, qD_in, aG_ref, aS_ref, aL_ref, pF_ref, cK_ref, cK_null, zI_lit, zJ_lit, zI_add, zI_sub, zI_mul, zI_neg, zI_eq, zI_lt, zI_le, Int.reduceLT, Int.reduceLE, Int.reduceAdd, Int.reduceSub, Int.reduceMul, Int.reduceNeg, Int.reduceEq, Int.reduceNe, reduceIte, jf_in, pFc_in, aGi, aGb, aSi, aLc_in, cKc_in, nA_in, jm_s1, jm_s2, jm_p1, jm_p2, jm_b, jn_b, jn_s, jn_p, jset_jset, jset_jpush2, ckR_is, ckr_is, rR_is, ckW_is, cR_is, obi2, ckW_int, eq_self, if_true, ref_null, if_false, ne_eq, not_true_eq_false, not_false_eq_true, decide_true, decide_false, decide_not, Bool.true_and, Bool.false_and, Bool.and_true, Bool.and_false, Bool.true_or, Bool.false_or, Bool.or_true, Bool.or_false, Bool.not_true, Bool.not_false, Bool.false_eq_true, bI_t, bI_f, Int.natCast_one, Int.cast_ofNat_Int, Int.natCast_zero, ju_self, ju_ne, ← hHN, mA, f5, f6, k1']
    · by_cases k5 : ckd g z l q = 5
      · have e4 := c4.mp (Or.inr k5)
        obtain ⟨H2, r1, r2⟩ := key 1 (by unfold erx; rw [if_pos e4])
        refine ⟨H2, ?_, r2⟩
        rw [← r1]
        simp (disch := first | assumption | omega | decide | exact okF_i | exact okF_r | exact okF_n | exact okF_j | rfl) only [jc_ref, rI_int, rR_ref, rR_null, rJ_long, ckR_ref, ckR_null, ckr_ref, ckr_null, ckW_int, ckW_ref, ckW_null, cI_ok, cR_ok, cR_null, cV_ok, cJ_ok, qH_eq, qD_in, aG_ref, aS_ref, aL_ref, pF_ref, cK_ref, cK_null, zI_lit, zJ_lit, zI_add, zI_sub, zI_mul, zI_neg, zI_eq, zI_lt, zI_le, Int.reduceLT, Int.reduceLE, Int.reduceAdd, Int.reduceSub, Int.reduceMul, Int.reduceNeg, Int.reduceEq, Int.reduceNe, reduceIte, jf_in, pFc_in, aGi, aGb, aSi, aLc_in, cKc_in, nA_in, jm_s1, jm_s2, jm_p1, jm_p2, jm_b, jn_b, jn_s, jn_p, jset_jset, jset_jpush2, ckR_is, ckr_is, rR_is, ckW_is, cR_is, obi2, ckW_int, eq_self, if_true, ref_null, if_false, ne_eq, not_true_eq_false, not_false_eq_true, decide_true, decide_false, decide_not, Bool.true_and, Bool.false_and, Bool.and_true, Bool.and_false, Bool.true_or, Bool.false_or, Bool.or_true, Bool.or_false, Bool.not_true, Bool.not_false, Bool.false_eq_true, bI_t, bI_f, Int.natCast_one, Int.cast_ofNat_Int, Int.natCast_zero, ju_self, ju_ne, ← hHN, mA, f5, f6, k5]
      · have e4 : ¬ kd g z l q = 4 := fun e => by have := c4.mpr e; omega
        obtain ⟨H2, r1, r2⟩ := key k (by unfold erx; rw [if_neg e4])
        refine ⟨H2, ?_, r2⟩
        rw [← r1]
        simp (disch := first | assumption | omega | decide | exact okF_i | exact okF_r | exact okF_n | exact okF_j | rfl) only [jc_ref, rI_int, rR_ref, rR_null, rJ_long, ckR_ref, ckR_null, ckr_ref, ckr_null, ckW_int, ckW_ref, ckW_null, cI_ok, cR_ok, cR_null, cV_ok, cJ_ok, qH_eq, qD_in, aG_ref, aS_ref, aL_ref, pF_ref, cK_ref, cK_null, zI_lit, zJ_lit, zI_add, zI_sub, zI_mul, zI_neg, zI_eq, zI_lt, zI_le, Int.reduceLT, Int.reduceLE, Int.reduceAdd, Int.reduceSub, Int.reduceMul, Int.reduceNeg, Int.reduceEq, Int.reduceNe, reduceIte, jf_in, pFc_in, aGi, aGb, aSi, aLc_in, cKc_in, nA_in, jm_s1, jm_s2, jm_p1, jm_p2, jm_b, jn_b, jn_s, jn_p, jset_jset, jset_jpush2, ckR_is, ckr_is, rR_is, ckW_is, cR_is, obi2, ckW_int, eq_self, if_true, ref_null, if_false, ne_eq, not_true_eq_false, not_false_eq_true, decide_true, decide_false, decide_not, Bool.true_and, Bool.false_and, Bool.and_true, Bool.and_false, Bool.true_or, Bool.false_or, Bool.or_true, Bool.or_false, Bool.not_true, Bool.not_false, Bool.false_eq_true, bI_t, bI_f, Int.natCast_one, Int.cast_ofNat_Int, Int.natCast_zero, ju_self, ju_ne, ← hHN, mA, f5, f6, k1', k5]
/-- is it such a word -/
theorem rc_is (h : RdC B H a t n tp sc g z l x y q) {w : Nat} {b : List Int} (hw : StrF (Fz B H) w b) (hb : NmB b) : M2 (d + 2) 8006 [.ref a, .ref w] H = some (.inl (some (.int (zI (bZ (isW g z l q (pk b)))))), H) := by
  obtain ⟨K, ha, hB, R⟩ := h
  obtain ⟨f, h1, h2, -⟩ := R
  obtain ⟨t1, t2⟩ := h1.tg
  have rv : (jtRecv 8006).elem t = true := by rcases h1.2.1 with e | e | e | e <;> subst e <;> rfl
  have m0 := h1.1
  have f5 := h2.1
  obtain ⟨w9, e9, s9⟩ := h2.2.2.2.2.2
  obtain ⟨c2, -⟩ := ckd_is (g := g) (z := z) (l := l) (q := q)
  have cr := ckd_rg (g := g) (z := z) (l := l) (q := q)
  rw [Y8006 H rfl (jrecv_in m0 rv), F8006_0]
  unfold isW
  by_cases k1 : kd g z l q = 1
  · obtain ⟨s, x1, x2, x3⟩ := s9 k1
    have ck := c2.mpr k1
    have eq := h_streq (d := d) (x1.at Fz_F) (hw.at Fz_F)
    have iff := x2.inj hb
    rw [x3] at iff
    by_cases e : s = b
    · rw [decide_eq_true e] at eq
      rw [decide_eq_true ⟨k1, iff.mp e⟩]
      simp (disch := first | assumption | omega | decide | exact okF_i | exact okF_r | exact okF_n | exact okF_j | rfl) only [jc_ref, rI_int, rR_ref, rR_null, rJ_long, ckR_ref, ckR_null, ckr_ref, ckr_null, ckW_int, ckW_ref, ckW_null, cI_ok, cR_ok, cR_null, cV_ok, cJ_ok, qH_eq, qD_in, aG_ref, aS_ref, aL_ref, pF_ref, cK_ref, cK_null, zI_lit, zJ_lit, zI_add, zI_sub, zI_mul, zI_neg, zI_eq, zI_lt, zI_le, Int.reduceLT, Int.reduceLE, Int.reduceAdd, Int.reduceSub, Int.reduceMul, Int.reduceNeg, Int.reduceEq, Int.reduceNe, reduceIte, jf_in, pFc_in, aGi, aGb, aSi, aLc_in, cKc_in, nA_in, jm_s1, jm_s2, jm_p1, jm_p2, jm_b, jn_b, jn_s, jn_p, jset_jset, jset_jpush2, ckR_is, ckr_is, rR_is, ckW_is, cR_is, obi2, ckW_int, eq_self, if_true, ref_null, if_false, ne_eq, not_true_eq_false, not_false_eq_true, decide_true, decide_false, decide_not, Bool.true_and, Bool.false_and, Bool.and_true, Bool.and_false, Bool.true_or, Bool.false_or, Bool.or_true, Bool.or_false, Bool.not_true, Bool.not_false, Bool.false_eq_true, bI_t, bI_f, Int.natCast_one, Int.cast_ofNat_Int, Int.natCast_zero, ju_self, ju_ne, m0, f5, ck, e9, eq, bZ_t]
    · rw [decide_eq_false e] at eq
      rw [decide_eq_false (fun u => e (iff.mpr u.2))]
      simp (disch := first | assumption | omega | decide | exact okF_i | exact okF_r | exact okF_n | exact okF_j | rfl) only [jc_ref, rI_int, rR_ref, rR_null, rJ_long, ckR_ref, ckR_null, ckr_ref, ckr_null, ckW_int, ckW_ref, ckW_null, cI_ok, cR_ok, cR_null, cV_ok, cJ_ok, qH_eq, qD_in, aG_ref, aS_ref, aL_ref, pF_ref, cK_ref, cK_null, zI_lit, zJ_lit, zI_add, zI_sub, zI_mul, zI_neg, zI_eq, zI_lt, zI_le, Int.reduceLT, Int.reduceLE, Int.reduceAdd, Int.reduceSub, Int.reduceMul, Int.reduceNeg, Int.reduceEq, Int.reduceNe, reduceIte, jf_in, pFc_in, aGi, aGb, aSi, aLc_in, cKc_in, nA_in, jm_s1, jm_s2, jm_p1, jm_p2, jm_b, jn_b, jn_s, jn_p, jset_jset, jset_jpush2, ckR_is, ckr_is, rR_is, ckW_is, cR_is, obi2, ckW_int, eq_self, if_true, ref_null, if_false, ne_eq, not_true_eq_false, not_false_eq_true, decide_true, decide_false, decide_not, Bool.true_and, Bool.false_and, Bool.and_true, Bool.and_false, Bool.true_or, Bool.false_or, Bool.or_true, Bool.or_false, Bool.not_true, Bool.not_false, Bool.false_eq_true, bI_t, bI_f, Int.natCast_one, Int.cast_ofNat_Int, Int.natCast_zero, ju_self, ju_ne, m0, f5, ck, e9, eq, bZ_f]
  · have ck : ¬ ckd g z l q = 2 := fun e => k1 (c2.mp e)
    rw [decide_eq_false (fun u => k1 u.1)]
    simp (disch := first | assumption | omega | decide | exact okF_i | exact okF_r | exact okF_n | exact okF_j | rfl) only [jc_ref, rI_int, rR_ref, rR_null, rJ_long, ckR_ref, ckR_null, ckr_ref, ckr_null, ckW_int, ckW_ref, ckW_null, cI_ok, cR_ok, cR_null, cV_ok, cJ_ok, qH_eq, qD_in, aG_ref, aS_ref, aL_ref, pF_ref, cK_ref, cK_null, zI_lit, zJ_lit, zI_add, zI_sub, zI_mul, zI_neg, zI_eq, zI_lt, zI_le, Int.reduceLT, Int.reduceLE, Int.reduceAdd, Int.reduceSub, Int.reduceMul, Int.reduceNeg, Int.reduceEq, Int.reduceNe, reduceIte, jf_in, pFc_in, aGi, aGb, aSi, aLc_in, cKc_in, nA_in, jm_s1, jm_s2, jm_p1, jm_p2, jm_b, jn_b, jn_s, jn_p, jset_jset, jset_jpush2, ckR_is, ckr_is, rR_is, ckW_is, cR_is, obi2, ckW_int, eq_self, if_true, ref_null, if_false, ne_eq, not_true_eq_false, not_false_eq_true, decide_true, decide_false, decide_not, Bool.true_and, Bool.false_and, Bool.and_true, Bool.and_false, Bool.true_or, Bool.false_or, Bool.or_true, Bool.or_false, Bool.not_true, Bool.not_false, Bool.false_eq_true, bI_t, bI_f, Int.natCast_one, Int.cast_ofNat_Int, Int.natCast_zero, ju_self, ju_ne, m0, f5, ck, bZ_f]
/-- is it such a word of the program's -/
theorem rc_isE (h : RdC B H a t n tp sc g z l x y q) {k : Nat} (k0 : 9 ≤ k) (k1 : k < 47) (hb : NmB (bsL k)) : ∃ w, je H k = .ref w ∧ ∀ d, M2 (d + 2) 8006 [.ref a, .ref w] H = some (.inl (some (.int (zI (bZ (isW g z l q (pk (bsL k))))))), H) := by
  obtain ⟨w, w1, w2⟩ := h.1.2.2.2.2.2 k k0 k1
  exact ⟨w, w1, fun d => rc_is (d := d) h w2 hb⟩
/-- is it a name -/
theorem rc_isName (h : RdC B H a t n tp sc g z l x y q) : ∃ H2, M2 (d + 5) 8009 [.ref a] H = some (.inl (some (.int (zI (bZ (isNm g z l q))))), H2) ∧ Fr H H2 (fun _ => False) ∧ H2.1 ≤ H.1 + 4 ∧ H2.2.1 ≤ H.2.1 + 33 := by
  obtain ⟨K, ha, hB, R⟩ := h
  have al := hB a ha
  obtain ⟨f, h1, h2, -⟩ := R
  obtain ⟨t1, t2⟩ := h1.tg
  have rv : (jtRecv 8009).elem t = true := by rcases h1.2.1 with e | e | e | e <;> subst e <;> rfl
  have m0 := h1.1
  have f5 := h2.1
  obtain ⟨w9, e9, s9⟩ := h2.2.2.2.2.2
  obtain ⟨c2, -⟩ := ckd_is (g := g) (z := z) (l := l) (q := q)
  have cr := ckd_rg (g := g) (z := z) (l := l) (q := q)
  rw [Y8009 H (jrecv_in m0 rv), F8009_0]
  unfold isNm
  by_cases k1 : kd g z l q = 1
  · obtain ⟨s, x1, x2, x3⟩ := s9 k1
    have ck := c2.mpr k1
    obtain ⟨wt, wt1, wt2⟩ := K.2.2.2.2.2 16 (by omega) (by omega)
    obtain ⟨ws, ws1, ws2⟩ := K.2.2.2.2.2 17 (by omega) (by omega)
    have es32 : bsL 17 = [32] := rfl
    rw [es32] at ws2
    have sl := x2.2.1
    have s0 := x2.1
    have sr : ∀ u ∈ s, 0 ≤ u ∧ u < 128 := fun u hu => by have := x2.2.2 u hu; omega
    -- the builder
    obtain ⟨HA, hHA⟩ : ∃ HA, HA = jpush H (49, 4, jL [.null, .int (zI 0), .int (zI 0), .int (zI 0)]) := ⟨_, rfl⟩
    have mA : jm HA H.1 = some (49, 4, jL [.null, .int (zI 0), .int (zI 0), .int (zI 0)]) := by rw [hHA]; exact jm_p1
    have n1 := h_snew (d := d + 3) mA
    obtain ⟨HB, hHB⟩ : ∃ HB, HB = jset (jburn HA 1 16) H.1 (cSB 16 []) := ⟨_, rfl⟩
    rw [← hHB] at n1
    have frA : Fr H HB (fun _ => False) := by
      rw [hHB, hHA]
      exact Fr.new (P := fun _ => False) Fr.rf ((Fr.push.tr Fr.burn).tr (Fr.set (Or.inr (Nat.le_refl _))))
    have mB : jm HB H.1 = some (cSB 16 []) := by rw [hHB]; exact jm_s1
    have nB : HB.1 = H.1 + 2 ∧ HB.2.1 = H.2.1 + 20 := by rw [hHB, hHA]; exact ⟨rfl, rfl⟩
    have fB : Fzn (Fz B H) HB := Fz_F.fr frA fun _ e => e.elim
    have sg : ∀ (X : AH) (k : Nat), k ≤ 16 → sbGrow X 16 k = X := fun X k hk => by unfold sbGrow; rw [if_pos hk]
    have sk' : ∀ (k : Nat), k ≤ 16 → sbCap 16 k = 16 := fun k hk => by unfold sbCap; rw [if_pos hk]
    have k1' : (1 : Nat) ≤ 16 := by omega
    have k2' : ([32] : List Int).length + s.length ≤ 16 := by simp; omega
    have k3' : (([32] : List Int) ++ s).length + ([32] : List Int).length ≤ 16 := by simp; omega
    have nsb : ∀ (b : List Int) (w : Nat) (cc : List Int), StrF (Fz B H) w cc → ∀ X : Cl, StrAt (jset HB H.1 X) w cc := fun b w cc hs X => hs.at (fB.fr (Fr.set (P := fun u => u = H.1) rfl) fun u e => by
      rw [e]
      cases hh : Fz B H H.1 with
      | none => rfl
      | some c => have := (Fz_lt hh).1; omega)
    have SB0 : SbW ([] : List Int) := fun u hu => by cases hu
    have SB1 : SbW ([32] : List Int) := fun u hu => by rw [List.mem_singleton] at hu; omega
    have SB2 : SbW ([32] ++ s) := fun u hu => by
      rcases List.mem_append.mp hu with hu | hu
      · exact SB1 u hu
      · exact sr u hu
    have SB3 : SbW ([32] ++ s ++ [32]) := fun u hu => by
      rcases List.mem_append.mp hu with hu | hu
      · exact SB2 u hu
      · exact SB1 u hu
    have a1 := h_sappS (d := d + 3) mB SB0 (by omega) (ws2.at fB)
    simp only [List.length_nil, List.length_singleton, List.nil_append, Nat.zero_add] at a1
    rw [sg _ _ k1', sk' _ k1'] at a1
    have a2 := h_sappS (d := d + 3) (H := jset HB H.1 (cSB 16 [32])) (a := H.1) (cap := 16) (b := [32]) (c := s) jm_s1 SB1 (by omega) (nsb [] w9 s x1 _)
    rw [sg _ _ k2', sk' _ k2', jset_jset] at a2
    have a3 := h_sappS (d := d + 3) (H := jset HB H.1 (cSB 16 ([32] ++ s))) (a := H.1) (cap := 16) (b := [32] ++ s) (c := [32]) jm_s1 SB2 (by omega) (nsb [] ws _ ws2 _)
    rw [sg _ _ k3', sk' _ k3', jset_jset] at a3
    obtain ⟨HC, hHC⟩ : ∃ HC, HC = jset HB H.1 (cSB 16 ([32] ++ s ++ [32])) := ⟨_, rfl⟩
    rw [← hHC] at a3
    have mC : jm HC H.1 = some (cSB 16 ([32] ++ s ++ [32])) := by rw [hHC]; exact jm_s1
    have len3 : ([32] ++ s ++ [32]).length = s.length + 2 := by simp
    have st := h_sstr (d := d + 3) mC SB3 (by omega) (by omega)
    have nC : HC.1 = H.1 + 2 ∧ HC.2.1 = H.2.1 + 20 := by rw [hHC]; exact nB
    obtain ⟨HD, hHD⟩ : ∃ HD, HD = jpush (jpush HC (50, 4, jL [.ref (HC.1 + 1), .int 0, .int 0, .int 0])) (1010, ([32] ++ s ++ [32]).length, fun k => .int (zI (([32] ++ s ++ [32]).getD k 0))) := ⟨_, rfl⟩
    rw [← hHD] at st
    have frD : Fr H HD (fun _ => False) := by
      refine frA.new ?_
      rw [hHD, hHC]
      exact ((Fr.set (Or.inr (Nat.le_refl _))).tr Fr.push).tr Fr.push
    have fD : Fzn (Fz B H) HD := Fz_F.fr frD fun _ e => e.elim
    have d1 : jm HD HC.1 = some (50, 4, jL [.ref (HC.1 + 1), .int 0, .int 0, .int 0]) := by rw [hHD, jm_p2 (by show HC.1 ≠ HC.1 + 1; omega), jm_p1]
    have d2 : jm HD (HC.1 + 1) = some (1010, ([32] ++ s ++ [32]).length, fun k => .int (zI (([32] ++ s ++ [32]).getD k 0))) := by rw [hHD]; exact jm_p1 (h := jpush HC _)
    have sD : StrAt HD HC.1 ([32] ++ s ++ [32]) := ⟨50, HC.1 + 1, 1010, _, _, ⟨d1, Or.inl rfl, rfl, rfl⟩, d2, Or.inl rfl, fun k _ => rfl, fun u hu => SB3 u hu, by omega⟩
    have ix := h_idxOf (d := d) (wt2.at fD) sD (by omega) (by rw [bsL16_len]; omega) (by rw [bsL16_len]; omega)
    have tk := taken_iff x2
    have ir : -1 ≤ idxF (bsL 16) ([32] ++ s ++ [32]) ((bsL 16).length - ([32] ++ s ++ [32]).length + 1) 0 ∧ idxF (bsL 16) ([32] ++ s ++ [32]) ((bsL 16).length - ([32] ++ s ++ [32]).length + 1) 0 ≤ 1000 := by
      have key : ∀ (m i : Nat), i + m ≤ 1000 → -1 ≤ idxF (bsL 16) ([32] ++ s ++ [32]) m i ∧ idxF (bsL 16) ([32] ++ s ++ [32]) m i ≤ 1000 := by
        intro m
        induction m with
        | zero => intro i _; exact ⟨Int.le_refl _, by show (-1 : Int) ≤ 1000; omega⟩
        | succ m ih =>
          intro i hi
          by_cases e : mtA (bsL 16) ([32] ++ s ++ [32]) i
          · rw [idxF_t e]; omega
          · rw [idxF_f e]; exact ih (i + 1) (by omega)
      exact key _ 0 (by rw [bsL16_len]; omega)
    have je1 : je HB = je H := frA.2.1
    have je2 : je (jset HB H.1 (cSB 16 ([32] ++ s))) = je H := je1
    have jmw : ∀ X, jm (jset HB H.1 X) a = some (t, n, f) := fun X => by rw [jm_s2 (by omega), frA.2.2 a al (fun e => e)]; exact m0
    refine ⟨HD, ?_, frD, ?_, ?_⟩
    · generalize idxF (bsL 16) ([32] ++ s ++ [32]) ((bsL 16).length - ([32] ++ s ++ [32]).length + 1) 0 = v at ix tk ir
      rw [decide_eq_true k1, Bool.true_and]
      by_cases e : v < 0
      · have r := tk.mp e
        rw [x3] at r
        rw [r]
        have nv : ¬ 0 ≤ v := by omega
        simp (disch := first | assumption | omega | decide | exact okF_i | exact okF_r | exact okF_n | exact okF_j | rfl) only [jc_ref, rI_int, rR_ref, rR_null, rJ_long, ckR_ref, ckR_null, ckr_ref, ckr_null, ckW_int, ckW_ref, ckW_null, cI_ok, cR_ok, cR_null, cV_ok, cJ_ok, qH_eq, qD_in, aG_ref, aS_ref, aL_ref, pF_ref, cK_ref, cK_null, zI_lit, zJ_lit, zI_add, zI_sub, zI_mul, zI_neg, zI_eq, zI_lt, zI_le, Int.reduceLT, Int.reduceLE, Int.reduceAdd, Int.reduceSub, Int.reduceMul, Int.reduceNeg, Int.reduceEq, Int.reduceNe, reduceIte, jf_in, pFc_in, aGi, aGb, aSi, aLc_in, cKc_in, nA_in, jm_s1, jm_s2, jm_p1, jm_p2, jm_b, jn_b, jn_s, jn_p, jset_jset, jset_jpush2, ckR_is, ckr_is, rR_is, ckW_is, cR_is, obi2, ckW_int, eq_self, if_true, ref_null, if_false, ne_eq, not_true_eq_false, not_false_eq_true, decide_true, decide_false, decide_not, Bool.true_and, Bool.false_and, Bool.and_true, Bool.and_false, Bool.true_or, Bool.false_or, Bool.or_true, Bool.or_false, Bool.not_true, Bool.not_false, Bool.false_eq_true, bI_t, bI_f, Int.natCast_one, Int.cast_ofNat_Int, Int.natCast_zero, ju_self, ju_ne, m0, f5, ck, wt1, ← hHA, n1, je1, je2, ws1, a1, jmw, e9, a2, a3, st, ix, nv, bZ_t]
      · have r : rsv.elem (wdv g z q) = true := by
          cases hh : rsv.elem (wdv g z q) with
          | true => rfl
          | false => rw [← x3] at hh; exact absurd (tk.mpr hh) e
        rw [r]
        have nv : 0 ≤ v := by omega
        simp (disch := first | assumption | omega | decide | exact okF_i | exact okF_r | exact okF_n | exact okF_j | rfl) only [jc_ref, rI_int, rR_ref, rR_null, rJ_long, ckR_ref, ckR_null, ckr_ref, ckr_null, ckW_int, ckW_ref, ckW_null, cI_ok, cR_ok, cR_null, cV_ok, cJ_ok, qH_eq, qD_in, aG_ref, aS_ref, aL_ref, pF_ref, cK_ref, cK_null, zI_lit, zJ_lit, zI_add, zI_sub, zI_mul, zI_neg, zI_eq, zI_lt, zI_le, Int.reduceLT, Int.reduceLE, Int.reduceAdd, Int.reduceSub, Int.reduceMul, Int.reduceNeg, Int.reduceEq, Int.reduceNe, reduceIte, jf_in, pFc_in, aGi, aGb, aSi, aLc_in, cKc_in, nA_in, jm_s1, jm_s2, jm_p1, jm_p2, jm_b, jn_b, jn_s, jn_p, jset_jset, jset_jpush2, ckR_is, ckr_is, rR_is, ckW_is, cR_is, obi2, ckW_int, eq_self, if_true, ref_null, if_false, ne_eq, not_true_eq_false, not_false_eq_true, decide_true, decide_false, decide_not, Bool.true_and, Bool.false_and, Bool.and_true, Bool.and_false, Bool.true_or, Bool.false_or, Bool.or_true, Bool.or_false, Bool.not_true, Bool.not_false, Bool.false_eq_true, bI_t, bI_f, Int.natCast_one, Int.cast_ofNat_Int, Int.natCast_zero, ju_self, ju_ne, m0, f5, ck, wt1, ← hHA, n1, je1, je2, ws1, a1, jmw, e9, a2, a3, st, ix, nv, bZ_f]
    · rw [hHD]; show HC.1 + 1 + 1 ≤ _; omega
    · rw [hHD]; show HC.2.1 + 4 + ([32] ++ s ++ [32]).length ≤ _; omega
  · have ck : ¬ ckd g z l q = 2 := fun e => k1 (c2.mp e)
    refine ⟨H, ?_, Fr.rf, by omega, by omega⟩
    rw [decide_eq_false k1, Bool.false_and]
    simp (disch := first | assumption | omega | decide | exact okF_i | exact okF_r | exact okF_n | exact okF_j | rfl) only [jc_ref, rI_int, rR_ref, rR_null, rJ_long, ckR_ref, ckR_null, ckr_ref, ckr_null, ckW_int, ckW_ref, ckW_null, cI_ok, cR_ok, cR_null, cV_ok, cJ_ok, qH_eq, qD_in, aG_ref, aS_ref, aL_ref, pF_ref, cK_ref, cK_null, zI_lit, zJ_lit, zI_add, zI_sub, zI_mul, zI_neg, zI_eq, zI_lt, zI_le, Int.reduceLT, Int.reduceLE, Int.reduceAdd, Int.reduceSub, Int.reduceMul, Int.reduceNeg, Int.reduceEq, Int.reduceNe, reduceIte, jf_in, pFc_in, aGi, aGb, aSi, aLc_in, cKc_in, nA_in, jm_s1, jm_s2, jm_p1, jm_p2, jm_b, jn_b, jn_s, jn_p, jset_jset, jset_jpush2, ckR_is, ckr_is, rR_is, ckW_is, cR_is, obi2, ckW_int, eq_self, if_true, ref_null, if_false, ne_eq, not_true_eq_false, not_false_eq_true, decide_true, decide_false, decide_not, Bool.true_and, Bool.false_and, Bool.and_true, Bool.and_false, Bool.true_or, Bool.false_or, Bool.or_true, Bool.or_false, Bool.not_true, Bool.not_false, Bool.false_eq_true, bI_t, bI_f, Int.natCast_one, Int.cast_ofNat_Int, Int.natCast_zero, ju_self, ju_ne, m0, f5, ck, bZ_f]
end
