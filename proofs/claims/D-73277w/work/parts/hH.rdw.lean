/-! the component's reader: statements -/
-- jc_ref, rI_int, rR_ref, rR_null, rJ_long, ckR_ref, ckR_null, ckr_ref, ckr_null, ckW_int, ckW_ref, ckW_null, cI_ok, cR_ok, cR_null, cV_ok, cJ_ok, qH_eq, qD_in, aG_ref, aS_ref, aL_ref, pF_ref, cK_ref, cK_null, zI_lit, zJ_lit, zI_add, zI_sub, zI_mul, zI_neg, zI_eq, zI_lt, zI_le, Int.reduceLT, Int.reduceLE, Int.reduceAdd, Int.reduceSub, Int.reduceMul, Int.reduceNeg, Int.reduceEq, Int.reduceNe, reduceIte, jf_in, pFc_in, aGi, aGb, aSi, aLc_in, cKc_in, nA_in, jm_s1, jm_s2, jm_p1, jm_p2, jm_b, jn_b, jn_s, jn_p, jset_jset, jset_jpush2, ckR_is, ckr_is, rR_is, ckW_is, cR_is, obi2, ckW_int, eq_self, if_true, ref_null, if_false, ne_eq, not_true_eq_false, not_false_eq_true, decide_true, decide_false, decide_not, Bool.true_and, Bool.false_and, Bool.and_true, Bool.and_false, Bool.true_or, Bool.false_or, Bool.or_true, Bool.or_false, Bool.not_true, Bool.not_false, Bool.false_eq_true, bI_t, bI_f, Int.natCast_one, Int.cast_ofNat_Int, Int.natCast_zero, ju_self, ju_ne = jc_ref, rI_int, rR_ref, rR_null, rJ_long, ckR_ref, ckR_null, ckr_ref, ckr_null, ckW_int, ckW_ref, ckW_null, cI_ok, cR_ok, cR_null, cV_ok, cJ_ok, qH_eq, qD_in, aG_ref, aS_ref, aL_ref, pF_ref, cK_ref, cK_null, zI_lit, zJ_lit, zI_add, zI_sub, zI_mul, zI_neg, zI_eq, zI_lt, zI_le, Int.reduceLT, Int.reduceLE, Int.reduceAdd, Int.reduceSub, Int.reduceMul, Int.reduceNeg, Int.reduceEq, Int.reduceNe, reduceIte, jf_in, pFc_in, aGi, aGb, aSi, aLc_in, cKc_in, nA_in, jm_s1, jm_s2, jm_p1, jm_p2, jm_b, jn_b, jn_s, jn_p, jset_jset, jset_jpush2, ckR_is, ckr_is, rR_is, ckW_is, cR_is, obi2, ckW_int, eq_self, if_true, ref_null, if_false, ne_eq, not_true_eq_false, not_false_eq_true, decide_true, decide_false, decide_not, Bool.true_and, Bool.false_and, Bool.and_true, Bool.and_false, Bool.true_or, Bool.false_or, Bool.or_true, Bool.or_false, Bool.not_true, Bool.not_false, Bool.false_eq_true, bI_t, bI_f, Int.natCast_one, Int.cast_ofNat_Int, Int.natCast_zero, ju_self, ju_ne
section
variable {d : Nat} {H H2 : AH} {a b t n tp sc w c s c2 s2 e : Nat} {f : Nat → Value} {g : Int → Int} {z l p q k o tt but to : Int} {F : Nat → Option Cl} {B P Q C C2 : Nat → Prop} {x y : Value} {S nm L : Int → Int} {sw : List Int}
/-- conditions: a list of their own -/
theorem rc_whens (h : RdC B H a t n tp sc g z l x y q) (hS : SchP C H sc S nm) (ca : C a) (W : ScW S) (t0 : 0 ≤ tt) (t1 : tt < S 0) (hL : L (to + 1) = tt) (h7 : L (to + 7) = 0) : CR (condsP g z l S nm L to q) (M2 (d + 10) 8019 [.ref a, .int (zI tt)] H) H (fun u => u = a) 151 1403 (fun b w H2 => RdC B H2 a t n tp sc g z l x y b.2 ∧ ∃ we, w = some (.ref we) ∧ H.1 ≤ we ∧ LstF (Fz B H2) we (b.1 (to + 7)) (fun k wb => Fz B H2 wb = some (20, 3, o20 (b.1 (to + 8 + 3 * k)) (b.1 (to + 8 + 3 * k + 1)) (b.1 (to + 8 + 3 * k + 2)))) ∧ ∀ j, j < to + 7 → b.1 j = L j) := by
  obtain ⟨f, m0, te, ht, f4, f5, -⟩ := h.fs
  have al := h.2.2.1 a h.2.1
  have rv : (jtRecv 8019).elem t = true := by rcases ht with e | e | e | e <;> subst e <;> rfl
  obtain ⟨H1, hH1⟩ : ∃ H1, H1 = jpush H (43, 3, jL [.int (zI 0), .null, .int (zI 0)]) := ⟨_, rfl⟩
  have m1 : jm H1 H.1 = some (43, 3, jL [.int (zI 0), .null, .int (zI 0)]) := by rw [hH1]; exact jm_p1
  have nw := h_new (d := d + 8) m1
  obtain ⟨H2, hH2⟩ : ∃ H2, H2 = jset H1 H.1 (cAL 0 0 []) := ⟨_, rfl⟩
  rw [← hH2] at nw
  have fr2 : Fr H H2 (fun _ => False) := by rw [hH2, hH1]; exact Fr.new (P := fun _ => False) Fr.rf (Fr.push.tr (Fr.set (Or.inr (Nat.le_refl _))))
  have n2 : H2.1 = H.1 + 1 ∧ H2.2.1 = H.2.1 + 3 := by rw [hH2, hH1]; exact ⟨rfl, rfl⟩
  have m2 : jm H2 H.1 = some (cAL 0 0 []) := by rw [hH2]; exact jm_s1
  have h2' := h.no fr2
  obtain ⟨w22, w22a, w22b⟩ := rc_isE h2' (k := 22) (by omega) (by omega) (nmE (by decide))
  have w22c := w22b (d + 7)
  rw [show pk (bsL 22) = wIF by decide] at w22c
  have nB : ∀ u, H.1 ≤ u → ¬ B u := fun u hu hb => by have := h.2.2.1 u hb; omega
  unfold condsP
  cases ei : isW g z l q wIF with
  | false =>
    rw [ei, bZ_f] at w22c
    rw [if_neg (by decide)]
    refine ⟨H2, fr2.mono fun _ _ z => z.elim, by omega, by omega, some (.ref H.1), ?_, h2', H.1, rfl, Nat.le_refl _, ⟨0, 0, [], Fz_in (by omega) (nB _ (Nat.le_refl _)) m2, by omega, by simp, by show ((0 : Nat) : Int) = L (to + 7); rw [h7]; rfl, fun k k0 k1 => by have k1 : k < L (to + 7) := k1; omega⟩, fun _ _ => rfl⟩
    rw [Y8019 H (jrecv_in m0 rv), F8019_0]
    simp (disch := first | assumption | omega | decide | exact okF_i | exact okF_r | exact okF_n | exact okF_j | rfl) only [jc_ref, rI_int, rR_ref, rR_null, rJ_long, ckR_ref, ckR_null, ckr_ref, ckr_null, ckW_int, ckW_ref, ckW_null, cI_ok, cR_ok, cR_null, cV_ok, cJ_ok, qH_eq, qD_in, aG_ref, aS_ref, aL_ref, pF_ref, cK_ref, cK_null, zI_lit, zJ_lit, zI_add, zI_sub, zI_mul, zI_neg, zI_eq, zI_lt, zI_le, Int.reduceLT, Int.reduceLE, Int.reduceAdd, Int.reduceSub, Int.reduceMul, Int.reduceNeg, Int.reduceEq, Int.reduceNe, reduceIte, jf_in, pFc_in, aGi, aGb, aSi, aLc_in, cKc_in, nA_in, jm_s1, jm_s2, jm_p1, jm_p2, jm_b, jn_b, jn_s, jn_p, jset_jset, jset_jpush2, ckR_is, ckr_is, rR_is, ckW_is, cR_is, obi2, ckW_int, eq_self, if_true, ref_null, if_false, ne_eq, not_true_eq_false, not_false_eq_true, decide_true, decide_false, decide_not, Bool.true_and, Bool.false_and, Bool.and_true, Bool.and_false, Bool.true_or, Bool.false_or, Bool.or_true, Bool.or_false, Bool.not_true, Bool.not_false, Bool.false_eq_true, bI_t, bI_f, Int.natCast_one, Int.cast_ofNat_Int, Int.natCast_zero, ju_self, ju_ne, ← hH1, nw, w22a, w22c]
  | true =>
    rw [ei, bZ_t] at w22c
    rw [if_pos rfl]
    have hea : H.1 ≠ a := by omega
    have h3 : RdC (fun u => B u ∨ u = H.1) H2 a t n tp sc g z l x y q := h.more fr2 (fun _ _ e => e.elim) (fun e => e) (fun u hu => hu.elim Or.inl fun e => Or.inr (by omega)) fun u hu => Or.inl hu
    have S3 : SchP (fun u => C u ∨ u = H.1) H2 sc S nm := hS.new fr2 (fun _ e => e.elim) fun u hu => hu.elim Or.inl fun e => Or.inr (by omega)
    obtain ⟨H3, i1, i2, i3, i4⟩ := wh_19 (d := d) (to := to) W (Or.inl ca) (Or.inr rfl) hea t0 t1 5 L q H2 0 0 [] jno jno h3 S3 m2 (Or.inl ⟨rfl, rfl⟩) (by rw [h7]; rfl) (by omega) (by omega) hL (fun k k0 k1 => by omega) (by omega)
    have run : M2 (d + 10) 8019 [.ref a, .int (zI tt)] H = G2 (d + 9) 8019 19 [.ref a, .int (zI tt), .ref H.1, jno, jno] [] H2 := by
      rw [Y8019 H (jrecv_in m0 rv), F8019_0]
      simp (disch := first | assumption | omega | decide | exact okF_i | exact okF_r | exact okF_n | exact okF_j | rfl) only [jc_ref, rI_int, rR_ref, rR_null, rJ_long, ckR_ref, ckR_null, ckr_ref, ckr_null, ckW_int, ckW_ref, ckW_null, cI_ok, cR_ok, cR_null, cV_ok, cJ_ok, qH_eq, qD_in, aG_ref, aS_ref, aL_ref, pF_ref, cK_ref, cK_null, zI_lit, zJ_lit, zI_add, zI_sub, zI_mul, zI_neg, zI_eq, zI_lt, zI_le, Int.reduceLT, Int.reduceLE, Int.reduceAdd, Int.reduceSub, Int.reduceMul, Int.reduceNeg, Int.reduceEq, Int.reduceNe, reduceIte, jf_in, pFc_in, aGi, aGb, aSi, aLc_in, cKc_in, nA_in, jm_s1, jm_s2, jm_p1, jm_p2, jm_b, jn_b, jn_s, jn_p, jset_jset, jset_jpush2, ckR_is, ckr_is, rR_is, ckW_is, cR_is, obi2, ckW_int, eq_self, if_true, ref_null, if_false, ne_eq, not_true_eq_false, not_false_eq_true, decide_true, decide_false, decide_not, Bool.true_and, Bool.false_and, Bool.and_true, Bool.and_false, Bool.true_or, Bool.false_or, Bool.or_true, Bool.or_false, Bool.not_true, Bool.not_false, Bool.false_eq_true, bI_t, bI_f, Int.natCast_one, Int.cast_ofNat_Int, Int.natCast_zero, ju_self, ju_ne, ← hH1, nw, w22a, w22c]
    have fr : Fr H H3 (fun u => u = a) := (fr2.mono fun _ _ e => e.elim).new (i1.mono fun u _ e => e.elim Or.inl fun e => Or.inr (by omega))
    refine ⟨H3, fr, by omega, by omega, ?_⟩
    rw [run]
    cases hv : condF g z l S nm to 5 L q with
    | error er => rw [hv] at i4; exact i4
    | ok b =>
      rw [hv] at i4
      obtain ⟨u2, j1, j2, j3, cap2, mc2, lst2, j4, j5, j6, j7, j8, j9⟩ := i4
      have el : H.1 < H3.1 := j3.2.2.1 H.1 (Or.inr rfl)
      have sub : Sub (Fz (fun u => B u ∨ u = H.1) H3) (Fz B H3) := fun u c hu => by
        obtain ⟨lt, nb⟩ := Fz_lt hu
        exact Fz_in lt (fun hb => nb (Or.inl hb)) (Fz_F.m hu)
      refine ⟨u2, j1, j3.less (fun u hu => Or.inl hu) h.2.1, H.1, j2, Nat.le_refl _, ⟨cap2, mc2, lst2, Fz_in el (nB _ (Nat.le_refl _)) j4, by omega, by omega, j6, fun k k0 k1 => ?_⟩, j9⟩
      obtain ⟨wb, z1, z2⟩ := j8 k k0 k1
      exact ⟨wb, z1, sub _ _ z2⟩
/-- what is read is a statement's object -/
def StmK (B : Nat → Prop) (H : AH) (a t n tp sc : Nat) (g : Int → Int) (z l : Int) (x y : Value) (S : Int → Int) (to : Int) (lo : Nat) (b : LQ) (w : Option Value) (H2 : AH) : Prop := RdC B H2 a t n tp sc g z l x y b.2 ∧ ∃ sb, w = some (.ref sb) ∧ lo ≤ sb ∧ StmF (Fz B H2) sb S b.1 to
/-- a contract, where a fault may be left to what comes next: a word that is none at its place -/
def CRl {α : Type} (g : Int → Int) (z l : Int) (r : Except Er α) (R : Rz) (H : AH) (P : Nat → Prop) (c s : Nat) (K : α → Option Value → AH → Prop) (Kl : Int → Option Value → AH → Prop) : Prop :=
  ∃ H2, Fr H H2 P ∧ H2.1 ≤ H.1 + c ∧ H2.2.1 ≤ H.2.1 + s ∧ match r with
    | .error e => (∃ x, R = some (.inr x, H2) ∧ FaF H2 x e) ∨ (∃ w q, R = some (.inl w, H2) ∧ kd g z l q = 1 ∧ e = erx g z l q 1 ∧ Kl q w H2)
    | .ok v => ∃ w, R = some (.inl w, H2) ∧ K v w H2
theorem CR.li {α : Type} {r : Except Er α} {R : Rz} {K : α → Option Value → AH → Prop} {Kl : Int → Option Value → AH → Prop} (h : CR r R H P c s K) : CRl g z l r R H P c s K Kl := by
  obtain ⟨H2, h1, h2, h3, h4⟩ := h
  refine ⟨H2, h1, h2, h3, ?_⟩
  cases r with
  | error e => exact Or.inl h4
  | ok v => exact h4
/-- an object is made ahead of what it is made of -/
theorem rc_obj (h : RdC B H a t n tp sc g z l x y q) (hS : SchP C H sc S nm) {cl : Cl} : RdC (fun u => B u ∨ u = H.1) (jpush H cl) a t n tp sc g z l x y q ∧ SchP (fun u => C u ∨ u = H.1) (jpush H cl) sc S nm ∧ Fr H (jpush H cl) (fun _ => False) ∧ jm (jpush H cl) H.1 = some cl ∧ (jpush H cl).1 = H.1 + 1 ∧ (jpush H cl).2.1 = H.2.1 + cl.2.1 := by
  have fr : Fr H (jpush H cl) (fun _ => False) := Fr.push
  exact ⟨h.more fr (fun _ _ e => e.elim) (fun e => e) (fun u hu => hu.elim Or.inl fun e => Or.inr ⟨by omega, by rw [e]; exact Nat.lt_succ_self _⟩) fun u hu => Or.inl hu, hS.new fr (fun _ e => e.elim) fun u hu => hu.elim Or.inl fun e => Or.inr (by omega), fr, jm_p1, rfl, rfl⟩
theorem sub_less {B1 : Nat → Prop} (h3 : ∀ u, B u → B1 u) : Sub (Fz B1 H) (Fz B H) := fun u c hu => by
  obtain ⟨lt, nb⟩ := Fz_lt hu
  exact Fz_in lt (fun hb => nb (h3 u hb)) (Fz_F.m hu)
/-- a statement's object, its conditions behind it -/
theorem rc_insert (h : RdC B H a t n tp sc g z l x y q) (hS : SchP C H sc S nm) (ca : C a) (W : ScW S) (t0 : 0 ≤ tt) (t1 : tt < S 0) (hL : L (to + 1) = tt) (hL0 : L to = 0) : CR (vals g z l to (S (4 + tt)).toNat 0 L q) (zqH (jpush H (17, 2, jL [.int (zI 0), .null])) (fun h18 => zcR (M2 (d + 9) 8001 [.ref a, .int (zI tt)] h18) (fun r19 h20 => zcV (M2 (d + 9) 17900 [.ref H.1, .int (zI tt), r19] h20) (fun h22 => some (.inl (some (.ref H.1)), h22)) ()) ()) ()) H (fun u => u = a) 22 172 (StmK B H a t n tp sc g z l x y S to H.1) := by
  obtain ⟨h1, S1, f1, m1, n1, n2⟩ := rc_obj h hS (cl := (17, 2, jL [.int (zI 0), .null]))
  have al := h.2.2.1 a h.2.1
  obtain ⟨H2, i1, i2, i3, i4⟩ := rc_cells (d := d) (to := to) (L := L) h1 S1 (Or.inl ca) W t0 t1
  generalize jpush H (17, 2, jL [.int (zI 0), .null]) = H1 at h1 S1 f1 m1 n1 n2 i1 i2 i3 i4 ⊢
  have nB : ∀ u, H.1 ≤ u → ¬ B u := fun u hu hb => by have := h.2.2.1 u hb; omega
  have n2 : H1.2.1 = H.2.1 + 2 := n2
  rw [qH_eq]
  cases hr : vals g z l to (S (4 + tt)).toNat 0 L q with
  | error er =>
    rw [hr] at i4
    obtain ⟨u, r5, r6⟩ := i4
    refine ⟨H2, (f1.mono fun _ _ z => z.elim).tr i1, by omega, by omega, u, ?_, r6⟩
    rw [r5, cR_th]
  | ok b =>
    rw [hr] at i4
    obtain ⟨u, r5, h2, ce, gc, rfl, j2, j3, j4, j5⟩ := i4
    have m2 : jm H2 H.1 = some (17, 2, jL [.int (zI 0), .null]) := (i1.2.2 _ (by omega) (by omega)).trans m1
    have r17 : (jtRecv 17900).elem 17 = true := rfl
    have r16 : (jtRecv 16900).elem 17 = true := rfl
    obtain ⟨H3, hH3⟩ : ∃ H3, H3 = jset H2 H.1 (17, 2, o17 tt (.ref ce)) := ⟨_, rfl⟩
    have ini : M2 (d + 9) 17900 [.ref H.1, .int (zI tt), .ref ce] H2 = some (.inl none, H3) := by
      have k1 : M2 (d + 8) 16900 [.ref H.1, .int (zI tt)] H2 = some (.inl none, jset H2 H.1 (17, 2, o17 tt .null)) := by
        rw [Y16900 H2 (jrecv_in m2 r16), F16900_0]
        simp (disch := first | assumption | omega | decide | exact okF_i | exact okF_r | exact okF_n | exact okF_j | rfl) only [jc_ref, rI_int, rR_ref, rR_null, rJ_long, ckR_ref, ckR_null, ckr_ref, ckr_null, ckW_int, ckW_ref, ckW_null, cI_ok, cR_ok, cR_null, cV_ok, cJ_ok, qH_eq, qD_in, aG_ref, aS_ref, aL_ref, pF_ref, cK_ref, cK_null, zI_lit, zJ_lit, zI_add, zI_sub, zI_mul, zI_neg, zI_eq, zI_lt, zI_le, Int.reduceLT, Int.reduceLE, Int.reduceAdd, Int.reduceSub, Int.reduceMul, Int.reduceNeg, Int.reduceEq, Int.reduceNe, reduceIte, jf_in, pFc_in, aGi, aGb, aSi, aLc_in, cKc_in, nA_in, jm_s1, jm_s2, jm_p1, jm_p2, jm_b, jn_b, jn_s, jn_p, jset_jset, jset_jpush2, ckR_is, ckr_is, rR_is, ckW_is, cR_is, obi2, ckW_int, eq_self, if_true, ref_null, if_false, ne_eq, not_true_eq_false, not_false_eq_true, decide_true, decide_false, decide_not, Bool.true_and, Bool.false_and, Bool.and_true, Bool.and_false, Bool.true_or, Bool.false_or, Bool.or_true, Bool.or_false, Bool.not_true, Bool.not_false, Bool.false_eq_true, bI_t, bI_f, Int.natCast_one, Int.cast_ofNat_Int, Int.natCast_zero, ju_self, ju_ne, n17, o17s_0, o17s_1, m2]
      rw [Y17900 H2 rfl (jrecv_in m2 r17), F17900_0, hH3]
      simp (disch := first | assumption | omega | decide | exact okF_i | exact okF_r | exact okF_n | exact okF_j | rfl) only [jc_ref, rI_int, rR_ref, rR_null, rJ_long, ckR_ref, ckR_null, ckr_ref, ckr_null, ckW_int, ckW_ref, ckW_null, cI_ok, cR_ok, cR_null, cV_ok, cJ_ok, qH_eq, qD_in, aG_ref, aS_ref, aL_ref, pF_ref, cK_ref, cK_null, zI_lit, zJ_lit, zI_add, zI_sub, zI_mul, zI_neg, zI_eq, zI_lt, zI_le, Int.reduceLT, Int.reduceLE, Int.reduceAdd, Int.reduceSub, Int.reduceMul, Int.reduceNeg, Int.reduceEq, Int.reduceNe, reduceIte, jf_in, pFc_in, aGi, aGb, aSi, aLc_in, cKc_in, nA_in, jm_s1, jm_s2, jm_p1, jm_p2, jm_b, jn_b, jn_s, jn_p, jset_jset, jset_jpush2, ckR_is, ckr_is, rR_is, ckW_is, cR_is, obi2, ckW_int, eq_self, if_true, ref_null, if_false, ne_eq, not_true_eq_false, not_false_eq_true, decide_true, decide_false, decide_not, Bool.true_and, Bool.false_and, Bool.and_true, Bool.and_false, Bool.true_or, Bool.false_or, Bool.or_true, Bool.or_false, Bool.not_true, Bool.not_false, Bool.false_eq_true, bI_t, bI_f, Int.natCast_one, Int.cast_ofNat_Int, Int.natCast_zero, ju_self, ju_ne, n17, o17s_0, o17s_1, k1]
    have fr3 : Fr H2 H3 (fun u => u = H.1) := by rw [hH3]; exact Fr.set rfl
    have m3 : jm H3 H.1 = some (17, 2, o17 tt (.ref ce)) := by rw [hH3]; exact jm_s1
    have n3 : H3.1 = H2.1 ∧ H3.2.1 = H2.2.1 := by rw [hH3]; exact ⟨rfl, rfl⟩
    have h3 := (h2.fr fr3 (fun u _ z => Or.inr z) (by omega)).less (B := B) (fun u hu => Or.inl hu) h.2.1
    have sub3 : Sub (Fz (fun u => B u ∨ u = H.1) H2) (Fz B H3) := (Fz_sub fr3 fun u _ z => Or.inr z).tr (sub_less fun u hu => Or.inl hu)
    have l2 := i1.1
    refine ⟨H3, ((f1.mono fun _ _ z => z.elim).tr i1).new (fr3.mono fun u _ z => Or.inr (by omega)), by omega, by omega, some (.ref H.1), ?_, h3, H.1, rfl, Nat.le_refl _, Or.inl ⟨?_, ce, gc, ?_, sub3 _ _ j2, fun c c0 c1 => ?_⟩⟩
    · rw [r5, cR_ok, ini, cV_ok]
    · rw [j5 _ (by omega)]; exact hL0
    · rw [j5 _ (by omega), hL]
      exact Fz_in (by omega) (nB _ (Nat.le_refl _)) m3
    · unfold insV
      rw [j5 _ (by omega), hL]
      by_cases e : c < S (4 + tt)
      · rw [if_pos e]; exact j3 c c0 e
      · rw [if_neg e]; exact j4 c (by omega) c1
theorem rc_delete (h : RdC B H a t n tp sc g z l x y q) (hS : SchP C H sc S nm) (ca : C a) (W : ScW S) (t0 : 0 ≤ tt) (t1 : tt < S 0) (hL : L (to + 1) = tt) (hL0 : L to = 1) (hL2 : L (to + 2) = 0) (h7 : L (to + 7) = 0) : CR (condsP g z l S nm L to q) (zqH (jpush H (19, 2, jL [.int (zI 0), .null])) (fun h13 => zcR (M2 (d + 10) 8019 [.ref a, .int (zI tt)] h13) (fun r14 h15 => zcV (M2 (d + 10) 19900 [.ref H.1, .int (zI tt), r14] h15) (fun h17 => some (.inl (some (.ref H.1)), h17)) ()) ()) ()) H (fun u => u = a) 152 1405 (StmK B H a t n tp sc g z l x y S to H.1) := by
  obtain ⟨h1, S1, f1, m1, n1, n2⟩ := rc_obj h hS (cl := (19, 2, jL [.int (zI 0), .null]))
  have al := h.2.2.1 a h.2.1
  obtain ⟨H2, i1, i2, i3, i4⟩ := rc_whens (d := d) (to := to) (L := L) h1 S1 (Or.inl ca) W t0 t1 hL h7
  generalize jpush H (19, 2, jL [.int (zI 0), .null]) = H1 at h1 S1 f1 m1 n1 n2 i1 i2 i3 i4 ⊢
  have nB : ∀ u, H.1 ≤ u → ¬ B u := fun u hu hb => by have := h.2.2.1 u hb; omega
  have n2 : H1.2.1 = H.2.1 + 2 := n2
  rw [qH_eq]
  cases hr : condsP g z l S nm L to q with
  | error er =>
    rw [hr] at i4
    obtain ⟨u, r5, r6⟩ := i4
    refine ⟨H2, (f1.mono fun _ _ z => z.elim).tr i1, by omega, by omega, u, ?_, r6⟩
    rw [r5, cR_th]
  | ok b =>
    rw [hr] at i4
    obtain ⟨u, r5, h2, we, rfl, j1, j2, j3⟩ := i4
    have m2 : jm H2 H.1 = some (19, 2, jL [.int (zI 0), .null]) := (i1.2.2 _ (by omega) (by omega)).trans m1
    have r19 : (jtRecv 19900).elem 19 = true := rfl
    have r18 : (jtRecv 18900).elem 19 = true := rfl
    have r16 : (jtRecv 16900).elem 19 = true := rfl
    obtain ⟨H3, hH3⟩ : ∃ H3, H3 = jset H2 H.1 (19, 2, o19 tt (.ref we)) := ⟨_, rfl⟩
    have ini : M2 (d + 10) 19900 [.ref H.1, .int (zI tt), .ref we] H2 = some (.inl none, H3) := by
      have k1 : M2 (d + 8) 16900 [.ref H.1, .int (zI tt)] H2 = some (.inl none, jset H2 H.1 (19, 2, o19 tt .null)) := by
        rw [Y16900 H2 (jrecv_in m2 r16), F16900_0]
        simp (disch := first | assumption | omega | decide | exact okF_i | exact okF_r | exact okF_n | exact okF_j | rfl) only [jc_ref, rI_int, rR_ref, rR_null, rJ_long, ckR_ref, ckR_null, ckr_ref, ckr_null, ckW_int, ckW_ref, ckW_null, cI_ok, cR_ok, cR_null, cV_ok, cJ_ok, qH_eq, qD_in, aG_ref, aS_ref, aL_ref, pF_ref, cK_ref, cK_null, zI_lit, zJ_lit, zI_add, zI_sub, zI_mul, zI_neg, zI_eq, zI_lt, zI_le, Int.reduceLT, Int.reduceLE, Int.reduceAdd, Int.reduceSub, Int.reduceMul, Int.reduceNeg, Int.reduceEq, Int.reduceNe, reduceIte, jf_in, pFc_in, aGi, aGb, aSi, aLc_in, cKc_in, nA_in, jm_s1, jm_s2, jm_p1, jm_p2, jm_b, jn_b, jn_s, jn_p, jset_jset, jset_jpush2, ckR_is, ckr_is, rR_is, ckW_is, cR_is, obi2, ckW_int, eq_self, if_true, ref_null, if_false, ne_eq, not_true_eq_false, not_false_eq_true, decide_true, decide_false, decide_not, Bool.true_and, Bool.false_and, Bool.and_true, Bool.and_false, Bool.true_or, Bool.false_or, Bool.or_true, Bool.or_false, Bool.not_true, Bool.not_false, Bool.false_eq_true, bI_t, bI_f, Int.natCast_one, Int.cast_ofNat_Int, Int.natCast_zero, ju_self, ju_ne, n19, o19s_0, o19s_1, m2]
      have k2 : M2 (d + 9) 18900 [.ref H.1, .int (zI tt), .ref we] H2 = some (.inl none, H3) := by
        rw [Y18900 H2 rfl (jrecv_in m2 r18), F18900_0, hH3]
        simp (disch := first | assumption | omega | decide | exact okF_i | exact okF_r | exact okF_n | exact okF_j | rfl) only [jc_ref, rI_int, rR_ref, rR_null, rJ_long, ckR_ref, ckR_null, ckr_ref, ckr_null, ckW_int, ckW_ref, ckW_null, cI_ok, cR_ok, cR_null, cV_ok, cJ_ok, qH_eq, qD_in, aG_ref, aS_ref, aL_ref, pF_ref, cK_ref, cK_null, zI_lit, zJ_lit, zI_add, zI_sub, zI_mul, zI_neg, zI_eq, zI_lt, zI_le, Int.reduceLT, Int.reduceLE, Int.reduceAdd, Int.reduceSub, Int.reduceMul, Int.reduceNeg, Int.reduceEq, Int.reduceNe, reduceIte, jf_in, pFc_in, aGi, aGb, aSi, aLc_in, cKc_in, nA_in, jm_s1, jm_s2, jm_p1, jm_p2, jm_b, jn_b, jn_s, jn_p, jset_jset, jset_jpush2, ckR_is, ckr_is, rR_is, ckW_is, cR_is, obi2, ckW_int, eq_self, if_true, ref_null, if_false, ne_eq, not_true_eq_false, not_false_eq_true, decide_true, decide_false, decide_not, Bool.true_and, Bool.false_and, Bool.and_true, Bool.and_false, Bool.true_or, Bool.false_or, Bool.or_true, Bool.or_false, Bool.not_true, Bool.not_false, Bool.false_eq_true, bI_t, bI_f, Int.natCast_one, Int.cast_ofNat_Int, Int.natCast_zero, ju_self, ju_ne, n19, o19s_0, o19s_1, k1]
      rw [Y19900 H2 rfl (jrecv_in m2 r19), F19900_0]
      simp (disch := first | assumption | omega | decide | exact okF_i | exact okF_r | exact okF_n | exact okF_j | rfl) only [jc_ref, rI_int, rR_ref, rR_null, rJ_long, ckR_ref, ckR_null, ckr_ref, ckr_null, ckW_int, ckW_ref, ckW_null, cI_ok, cR_ok, cR_null, cV_ok, cJ_ok, qH_eq, qD_in, aG_ref, aS_ref, aL_ref, pF_ref, cK_ref, cK_null, zI_lit, zJ_lit, zI_add, zI_sub, zI_mul, zI_neg, zI_eq, zI_lt, zI_le, Int.reduceLT, Int.reduceLE, Int.reduceAdd, Int.reduceSub, Int.reduceMul, Int.reduceNeg, Int.reduceEq, Int.reduceNe, reduceIte, jf_in, pFc_in, aGi, aGb, aSi, aLc_in, cKc_in, nA_in, jm_s1, jm_s2, jm_p1, jm_p2, jm_b, jn_b, jn_s, jn_p, jset_jset, jset_jpush2, ckR_is, ckr_is, rR_is, ckW_is, cR_is, obi2, ckW_int, eq_self, if_true, ref_null, if_false, ne_eq, not_true_eq_false, not_false_eq_true, decide_true, decide_false, decide_not, Bool.true_and, Bool.false_and, Bool.and_true, Bool.and_false, Bool.true_or, Bool.false_or, Bool.or_true, Bool.or_false, Bool.not_true, Bool.not_false, Bool.false_eq_true, bI_t, bI_f, Int.natCast_one, Int.cast_ofNat_Int, Int.natCast_zero, ju_self, ju_ne, k2]
    have fr3 : Fr H2 H3 (fun u => u = H.1) := by rw [hH3]; exact Fr.set rfl
    have m3 : jm H3 H.1 = some (19, 2, o19 tt (.ref we)) := by rw [hH3]; exact jm_s1
    have n3 : H3.1 = H2.1 ∧ H3.2.1 = H2.2.1 := by rw [hH3]; exact ⟨rfl, rfl⟩
    have h3 := (h2.fr fr3 (fun u _ z => Or.inr z) (by omega)).less (B := B) (fun u hu => Or.inl hu) h.2.1
    have sub3 : Sub (Fz (fun u => B u ∨ u = H.1) H2) (Fz B H3) := (Fz_sub fr3 fun u _ z => Or.inr z).tr (sub_less fun u hu => Or.inl hu)
    have l2 := i1.1
    refine ⟨H3, ((f1.mono fun _ _ z => z.elim).tr i1).new (fr3.mono fun u _ z => Or.inr (by omega)), by omega, by omega, some (.ref H.1), ?_, h3, H.1, rfl, Nat.le_refl _, Or.inr ⟨Or.inl ?_, we, j2.sub sub3 fun k wb x => sub3 _ _ x, Or.inl ⟨?_, ?_, ?_⟩⟩⟩
    · rw [r5, cR_ok, ini, cV_ok]
    · rw [j3 _ (by omega)]; exact hL0
    · rw [j3 _ (by omega)]; exact hL0
    · rw [j3 _ (by omega)]; exact hL2
    · rw [j3 _ (by omega), hL]
      exact Fz_in (by omega) (nB _ (Nat.le_refl _)) m3
end
