/-! the component's reader of schemas: tables -/
-- jc_ref, rI_int, rR_ref, rR_null, rJ_long, ckR_ref, ckR_null, ckr_ref, ckr_null, ckW_int, ckW_ref, ckW_null, cI_ok, cR_ok, cR_null, cV_ok, cJ_ok, qH_eq, qD_in, aG_ref, aS_ref, aL_ref, pF_ref, cK_ref, cK_null, zI_lit, zJ_lit, zI_add, zI_sub, zI_mul, zI_neg, zI_eq, zI_lt, zI_le, Int.reduceLT, Int.reduceLE, Int.reduceAdd, Int.reduceSub, Int.reduceMul, Int.reduceNeg, Int.reduceEq, Int.reduceNe, reduceIte, jf_in, pFc_in, aGi, aGb, aSi, aLc_in, cKc_in, nA_in, jm_s1, jm_s2, jm_p1, jm_p2, jm_b, jn_b, jn_s, jn_p, jset_jset, jset_jpush2, ckR_is, ckr_is, rR_is, ckW_is, cR_is, obi2, ckW_int, eq_self, if_true, ref_null, if_false, ne_eq, not_true_eq_false, not_false_eq_true, decide_true, decide_false, decide_not, Bool.true_and, Bool.false_and, Bool.and_true, Bool.and_false, Bool.true_or, Bool.false_or, Bool.or_true, Bool.or_false, Bool.not_true, Bool.not_false, Bool.false_eq_true, bI_t, bI_f, Int.natCast_one, Int.cast_ofNat_Int, Int.natCast_zero, ju_self, ju_ne = jc_ref, rI_int, rR_ref, rR_null, rJ_long, ckR_ref, ckR_null, ckr_ref, ckr_null, ckW_int, ckW_ref, ckW_null, cI_ok, cR_ok, cR_null, cV_ok, cJ_ok, qH_eq, qD_in, aG_ref, aS_ref, aL_ref, pF_ref, cK_ref, cK_null, zI_lit, zJ_lit, zI_add, zI_sub, zI_mul, zI_neg, zI_eq, zI_lt, zI_le, Int.reduceLT, Int.reduceLE, Int.reduceAdd, Int.reduceSub, Int.reduceMul, Int.reduceNeg, Int.reduceEq, Int.reduceNe, reduceIte, jf_in, pFc_in, aGi, aGb, aSi, aLc_in, cKc_in, nA_in, jm_s1, jm_s2, jm_p1, jm_p2, jm_b, jn_b, jn_s, jn_p, jset_jset, jset_jpush2, ckR_is, ckr_is, rR_is, ckW_is, cR_is, obi2, ckW_int, eq_self, if_true, ref_null, if_false, ne_eq, not_true_eq_false, not_false_eq_true, decide_true, decide_false, decide_not, Bool.true_and, Bool.false_and, Bool.and_true, Bool.and_false, Bool.true_or, Bool.false_or, Bool.or_true, Bool.or_false, Bool.not_true, Bool.not_false, Bool.false_eq_true, bI_t, bI_f, Int.natCast_one, Int.cast_ofNat_Int, Int.natCast_zero, ju_self, ju_ne
/-- a contract, where a fault may be left to the line's end -/
def CRm {α : Type} (g : Int → Int) (z l : Int) (r : Except Er α) (R : Rz) (H : AH) (P : Nat → Prop) (c s : Nat) (K : α → Option Value → AH → Prop) (Kl : Int → Option Value → AH → Prop) : Prop :=
  ∃ H2, Fr H H2 P ∧ H2.1 ≤ H.1 + c ∧ H2.2.1 ≤ H.2.1 + s ∧ match r with
    | .error e => (∃ x, R = some (.inr x, H2) ∧ FaF H2 x e) ∨ (∃ w q, R = some (.inl w, H2) ∧ isS g z l q 59 = false ∧ e = erx g z l q 1 ∧ Kl q w H2)
    | .ok v => ∃ w, R = some (.inl w, H2) ∧ K v w H2
section
variable {d : Nat} {H H2 : AH} {a b e e1 e2 q n tp c s c2 s2 tg w : Nat} {k m ln t tt but v one two o cc sg col : Int} {B P P0 C : Nat → Prop} {S S' nm nm' g : Int → Int} {bt : Int → Nat} {z l p : Int} {x y : Value} {f : Nat → Value} {F : Nat → Option Cl}
theorem CR.lm {α : Type} {r : Except Er α} {R : Rz} {K : α → Option Value → AH → Prop} {Kl : Int → Option Value → AH → Prop} (h : CR r R H P c s K) : CRm g z l r R H P c s K Kl := by
  obtain ⟨H2, h1, h2, h3, h4⟩ := h
  refine ⟨H2, h1, h2, h3, ?_⟩
  cases r with
  | error e => exact Or.inl h4
  | ok v => exact h4
theorem isS_kd {v : Int} (h : kd g z l p = 1) : isS g z l p v = false := by
  unfold isS
  exact decide_eq_false fun e => by omega
theorem CRl.lm {α : Type} {r : Except Er α} {R : Rz} {K : α → Option Value → AH → Prop} {Kl : Int → Option Value → AH → Prop} (h : CRl g z l r R H P c s K Kl) : CRm g z l r R H P c s K Kl := by
  obtain ⟨H2, h1, h2, h3, h4⟩ := h
  refine ⟨H2, h1, h2, h3, ?_⟩
  cases r with
  | error e =>
    rcases h4 with h4 | ⟨w, p', h5, h6, h7⟩
    · exact Or.inl h4
    · exact Or.inr ⟨w, p', h5, isS_kd h6, h7⟩
  | ok v => exact h4
theorem CRm.stp {α : Type} {r : Except Er α} {R : Rz} {K : α → Option Value → AH → Prop} {Kl : Int → Option Value → AH → Prop} (f : Fr H H2 P0) (hP : ∀ u, P0 u → P u) (hc : H2.1 ≤ H.1 + c) (hs : H2.2.1 ≤ H.2.1 + s) (h : CRm g z l r R H2 P c2 s2 K Kl) : CRm g z l r R H P (c + c2) (s + s2) K Kl := by
  obtain ⟨H3, h1, h2, h3, h4⟩ := h
  exact ⟨H3, (f.mono fun u _ z => hP u z).tr h1, by omega, by omega, h4⟩
theorem CRm.wk {α : Type} {r : Except Er α} {R : Rz} {c' s' : Nat} {K : α → Option Value → AH → Prop} {Kl : Int → Option Value → AH → Prop} (h : CRm g z l r R H P0 c s K Kl) (hP : ∀ u, P0 u → P u) (hc : c ≤ c') (hs : s ≤ s') : CRm g z l r R H P c' s' K Kl := by
  obtain ⟨H2, h1, h2, h3, h4⟩ := h
  exact ⟨H2, h1.mono fun u _ z => hP u z, by omega, by omega, h4⟩
/-- a table that is begun -/
theorem SchM.newT {sw : List Int} (h : SchM H a q bt k k ln S nm) (k0 : 0 ≤ k) (k4 : k < 4) (f : Fr H H2 (fun _ => False)) (hb : H.1 + 4 ≤ H2.1) (W' : HsW S') (e4 : S' (4 + k) = 0) (ee : ∀ i, i ≠ 4 + k → S' i = S i) (m0 : jm H2 H.1 = some (11, 4, o11 (.ref w) (.ref (H.1 + 1)) (.ref (H.1 + 2)) (.ref (H.1 + 3)))) (m1 : jm H2 (H.1 + 1) = some (cAL 0 0 [])) (m2 : ∃ gd, jm H2 (H.1 + 2) = some (1000, 4, aI gd) ∧ ∀ c, 0 ≤ c → c < 4 → gd c = -1) (m3 : jm H2 (H.1 + 3) = some (cBS 1 fun _ => false)) (hw : StrF (Fz (Bs a q bt k) H) w sw) (hs : NmB sw) (hn : nm' k = pk sw) (hn2 : ∀ i, i ≠ k → nm' i = nm i) : SchM H2 a q (fun t => if t = k then H.1 else bt t) k (k + 1) ln S' nm' := by
  obtain ⟨o, h1, h2, h3, h4, h5, h6, h7, h8⟩ := h
  have oa := o.1.1
  have ob := o.1.2
  have c1 := h8.1.2.2.2.1
  have c2 := h8.1.2.2.2.2.1
  have c3 := h8.1.2.2.2.2.2
  have btk : ∀ t, t ≠ k → (if t = k then H.1 else bt t) = bt t := fun t ht => if_neg ht
  have sb : Sub (Fz (Bs a q bt k) H) (Fz (Bs a q (fun t => if t = k then H.1 else bt t) (k + 1)) H2) := fun u c hu => by
    obtain ⟨lt, nb⟩ := Fz_lt hu
    refine Fz_in (Nat.lt_of_lt_of_le lt f.1) (fun hb => ?_) ((f.2.2 u lt fun z => z).trans (Fz_F.m hu))
    rcases hb with z | z | ⟨t, t0, t1, t2, t3⟩
    · exact nb (Or.inl z)
    · exact nb (Or.inr (Or.inl z))
    · replace t2 : (if t = k then H.1 else bt t) ≤ u := t2
      replace t3 : u < (if t = k then H.1 else bt t) + 4 := t3
      by_cases c : t = k
      · rw [if_pos c] at t2; omega
      · rw [if_neg c] at t2 t3
        exact nb (Or.inr (Or.inr ⟨t, t0, by omega, t2, t3⟩))
  have e2 : ∀ u, u < H.1 → jm H2 u = jm H u := fun u u0 => f.2.2 u u0 fun z => z
  refine ⟨⟨⟨oa, by have := f.1; omega⟩, fun t t0 t1 => ?_, fun t t' t0 t1 t2 => ?_⟩, (e2 q (by omega)).trans h1, h2.up (e2 _ (by omega)) fun t b t0 t1 z => ?_, ?_, ?_, ?_, fun t t0 t1 => ?_, ⟨fun t t0 t1 c z0 z1 => ?_, fun i i0 i1 => ?_⟩, W'⟩
  · by_cases c : t = k
    · subst c; show q + 5 ≤ (if t = t then H.1 else bt t) ∧ (if t = t then H.1 else bt t) + 4 ≤ H2.1; rw [if_pos rfl]; exact ⟨ob, hb⟩
    · show q + 5 ≤ (if t = k then H.1 else bt t) ∧ (if t = k then H.1 else bt t) + 4 ≤ H2.1
      rw [btk t c]
      have := o.2.1 t t0 (by omega)
      omega
  · have c : t ≠ k := by omega
    show (if t = k then H.1 else bt t) + 4 ≤ (if t' = k then H.1 else bt t')
    rw [btk t c]
    by_cases c' : t' = k
    · rw [if_pos c']; exact (o.2.1 t t0 (by omega)).2
    · rw [if_neg c']; exact o.2.2 t t' t0 t1 (by omega)
  · show b = (if t = k then H.1 else bt t)
    rw [btk t (by omega)]; exact z
  · rw [ee 1 (by omega)]
    exact h3.up (e2 _ (by omega)) fun k u k0 k1 z => z.cg sb (ee _ (by omega)) (ee _ (by omega)) (ee _ (by omega))
  · rw [ee 2 (by omega)]
    exact h4.up (e2 _ (by omega)) fun k u k0 k1 z => z.cg sb fun j j0 j1 => ee _ (by omega)
  · rw [ee 3 (by omega)]
    exact h5.up (e2 _ (by omega)) fun k u k0 k1 z => z.cg sb (ee _ (by omega)) (ee _ (by omega)) (ee _ (by omega)) (ee _ (by omega)) (ee _ (by omega)) (ee _ (by omega))
  · by_cases c : t = k
    · subst c
      show TabM _ H2 (if t = t then H.1 else bt t) t S' nm'
      rw [if_pos rfl]
      refine ⟨⟨w, m0, sw, hw.sub sb, hs, hn.symm⟩, ?_, ?_, _, m3, fun c c0 c1 => ?_⟩
      · rw [e4]
        exact ⟨0, 0, [], m1, Or.inl ⟨rfl, rfl⟩, rfl, fun k z0 z1 => by omega⟩
      · obtain ⟨gd, x1, x2⟩ := m2
        refine ⟨gd, x1, fun c z0 z1 => ?_⟩
        rw [x2 c z0 z1, ee _ (by omega), (h7.1 t (Int.le_refl _) k4 c z0 z1).1]
      · rw [ee _ (by omega), (h7.1 t (Int.le_refl _) k4 c c0 c1).2]
        exact (decide_eq_false (by omega)).symm
    · show TabM _ H2 (if t = k then H.1 else bt t) t S' nm'
      rw [btk t c]
      have c4 := h8.1.2.2.1 t t0 (by omega)
      refine (h6 t t0 (by omega)).up (fun i hi => ?_) sb (ee _ (by omega)) (fun c z0 z1 => ee _ (by omega)) (fun c z0 z1 => ee _ (by omega)) (hn2 _ c) fun c z0 z1 => hn2 _ (by omega)
      exact e2 _ (o.out t0 (by omega) hi).1
  · rw [ee _ (by omega), ee _ (by omega)]; exact h7.1 t (by omega) t1 c z0 z1
  · rw [ee 3 (by omega)] at i0
    rw [ee _ (by omega)]; exact h7.2 i i0 i1
/-- a table that is done -/
theorem SchM.finT (h : SchM H a q bt k (k + 1) ln S nm) (k0 : 0 ≤ k) (k4 : k < 4) (f : Fr H H2 (fun u => u = q + 1)) (L : LstM H2 (q + 1) (k + 1) (fun t b => b = bt t)) (W' : HsW S') (ee : ∀ i, i ≠ 0 → S' i = S i) : SchM H2 a q bt (k + 1) (k + 1) ln S' nm := by
  obtain ⟨o, h1, h2, h3, h4, h5, h6, h7, h8⟩ := h
  have oa := o.1.1
  have ob := o.1.2
  have c1 := h8.1.2.2.2.1
  have c2 := h8.1.2.2.2.2.1
  have c3 := h8.1.2.2.2.2.2
  have sb : Sub (Fz (Bs a q bt (k + 1)) H) (Fz (Bs a q bt (k + 1)) H2) := Fz_sub f fun u _ e => Or.inr (Or.inl (by omega))
  have e2 : ∀ u, u < H.1 → u ≠ q + 1 → jm H2 u = jm H u := fun u u0 u1 => f.2.2 u u0 u1
  refine ⟨o.fr f.1, (e2 q (by omega) (by omega)).trans h1, L, ?_, ?_, ?_, fun t t0 t1 => ?_, ⟨fun t t0 t1 c z0 z1 => ?_, fun i i0 i1 => ?_⟩, W'⟩
  · rw [ee 1 (by omega)]
    exact h3.up (e2 _ (by omega) (by omega)) fun k u k0 k1 z => z.cg sb (ee _ (by omega)) (ee _ (by omega)) (ee _ (by omega))
  · rw [ee 2 (by omega)]
    exact h4.up (e2 _ (by omega) (by omega)) fun k u k0 k1 z => z.cg sb fun j j0 j1 => ee _ (by omega)
  · rw [ee 3 (by omega)]
    exact h5.up (e2 _ (by omega) (by omega)) fun k u k0 k1 z => z.cg sb (ee _ (by omega)) (ee _ (by omega)) (ee _ (by omega)) (ee _ (by omega)) (ee _ (by omega)) (ee _ (by omega))
  · refine (h6 t t0 t1).up (fun i hi => ?_) sb (ee _ (by omega)) (fun c z0 z1 => ee _ (by omega)) (fun c z0 z1 => ee _ (by omega)) rfl fun c z0 z1 => rfl
    have := o.out t0 t1 hi
    exact e2 _ this.1 (by omega)
  · rw [ee _ (by omega), ee _ (by omega)]; exact h7.1 t t0 t1 c z0 z1
  · rw [ee 3 (by omega)] at i0
    rw [ee _ (by omega)]; exact h7.2 i i0 i1
end
