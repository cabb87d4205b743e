/-! the component's reader of schemas: references -/
-- jc_ref, rI_int, rR_ref, rR_null, rJ_long, ckR_ref, ckR_null, ckr_ref, ckr_null, ckW_int, ckW_ref, ckW_null, cI_ok, cR_ok, cR_null, cV_ok, cJ_ok, qH_eq, qD_in, aG_ref, aS_ref, aL_ref, pF_ref, cK_ref, cK_null, zI_lit, zJ_lit, zI_add, zI_sub, zI_mul, zI_neg, zI_eq, zI_lt, zI_le, Int.reduceLT, Int.reduceLE, Int.reduceAdd, Int.reduceSub, Int.reduceMul, Int.reduceNeg, Int.reduceEq, Int.reduceNe, reduceIte, jf_in, pFc_in, aGi, aGb, aSi, aLc_in, cKc_in, nA_in, jm_s1, jm_s2, jm_p1, jm_p2, jm_b, jn_b, jn_s, jn_p, jset_jset, jset_jpush2, ckR_is, ckr_is, rR_is, ckW_is, cR_is, obi2, ckW_int, eq_self, if_true, ref_null, if_false, ne_eq, not_true_eq_false, not_false_eq_true, decide_true, decide_false, decide_not, Bool.true_and, Bool.false_and, Bool.and_true, Bool.and_false, Bool.true_or, Bool.false_or, Bool.or_true, Bool.or_false, Bool.not_true, Bool.not_false, Bool.false_eq_true, bI_t, bI_f, Int.natCast_one, Int.cast_ofNat_Int, Int.natCast_zero, ju_self, ju_ne = jc_ref, rI_int, rR_ref, rR_null, rJ_long, ckR_ref, ckR_null, ckr_ref, ckr_null, ckW_int, ckW_ref, ckW_null, cI_ok, cR_ok, cR_null, cV_ok, cJ_ok, qH_eq, qD_in, aG_ref, aS_ref, aL_ref, pF_ref, cK_ref, cK_null, zI_lit, zJ_lit, zI_add, zI_sub, zI_mul, zI_neg, zI_eq, zI_lt, zI_le, Int.reduceLT, Int.reduceLE, Int.reduceAdd, Int.reduceSub, Int.reduceMul, Int.reduceNeg, Int.reduceEq, Int.reduceNe, reduceIte, jf_in, pFc_in, aGi, aGb, aSi, aLc_in, cKc_in, nA_in, jm_s1, jm_s2, jm_p1, jm_p2, jm_b, jn_b, jn_s, jn_p, jset_jset, jset_jpush2, ckR_is, ckr_is, rR_is, ckW_is, cR_is, obi2, ckW_int, eq_self, if_true, ref_null, if_false, ne_eq, not_true_eq_false, not_false_eq_true, decide_true, decide_false, decide_not, Bool.true_and, Bool.false_and, Bool.and_true, Bool.and_false, Bool.true_or, Bool.false_or, Bool.or_true, Bool.or_false, Bool.not_true, Bool.not_false, Bool.false_eq_true, bI_t, bI_f, Int.natCast_one, Int.cast_ofNat_Int, Int.natCast_zero, ju_self, ju_ne
section
variable {d : Nat} {H H2 : AH} {a b e e1 e2 q n tp c s c2 s2 tg : Nat} {a1 a2 b1 b2 m ln t tt but v one two o : Int} {B P P0 C : Nat → Prop} {S nm g : Int → Int} {bt : Int → Nat} {z l p : Int} {x y : Value} {f : Nat → Value} {F : Nat → Option Cl}
theorem CR.bind {α β : Type} {r : Except Er α} {f : α → Except Er β} {R R' : Rz} {K : α → Option Value → AH → Prop} {K2 : β → Option Value → AH → Prop} (h : CR r R H P0 c s K) (hP : ∀ u, P0 u → P u) (he : ∀ x H2, R = some (.inr x, H2) → R' = some (.inr x, H2)) (hk : ∀ v w H2, r = .ok v → R = some (.inl w, H2) → K v w H2 → Fr H H2 P0 → H2.1 ≤ H.1 + c → H2.2.1 ≤ H.2.1 + s → CR (f v) R' H2 P c2 s2 K2) : CR (eb r f) R' H P (c + c2) (s + s2) K2 := by
  obtain ⟨H2, h1, h2, h3, h4⟩ := h
  cases r with
  | error er =>
    obtain ⟨x, h5, h6⟩ := h4
    exact ⟨H2, h1.mono fun u _ z => hP u z, by omega, by omega, x, he x H2 h5, h6⟩
  | ok v =>
    obtain ⟨w, h5, h6⟩ := h4
    obtain ⟨H3, k1, k2, k3, k4⟩ := hk v w H2 rfl h5 h6 h1 h2 h3
    exact ⟨H3, (h1.mono fun u _ z => hP u z).tr k1, by omega, by omega, k4⟩
theorem CR.wk {α : Type} {r : Except Er α} {R : Rz} {c' s' : Nat} {K : α → Option Value → AH → Prop} (h : CR r R H P0 c s K) (hP : ∀ u, P0 u → P u) (hc : c ≤ c') (hs : s ≤ s') : CR r R H P c' s' K := by
  obtain ⟨H2, h1, h2, h3, h4⟩ := h
  exact ⟨H2, h1.mono fun u _ z => hP u z, by omega, by omega, h4⟩
/-- a step that cannot fail -/
theorem CR.stp {α : Type} {r : Except Er α} {R : Rz} {K : α → Option Value → AH → Prop} (f : Fr H H2 P0) (hP : ∀ u, P0 u → P u) (hc : H2.1 ≤ H.1 + c) (hs : H2.2.1 ≤ H.2.1 + s) (h : CR r R H2 P c2 s2 K) : CR r R H P (c + c2) (s + s2) K := by
  obtain ⟨H3, h1, h2, h3, h4⟩ := h
  exact ⟨H3, (f.mono fun u _ z => hP u z).tr h1, by omega, by omega, h4⟩
theorem CRl.bind {α β : Type} {r : Except Er α} {f : α → Except Er β} {R R' : Rz} {K : α → Option Value → AH → Prop} {Kl : Int → Option Value → AH → Prop} {K2 : β → Option Value → AH → Prop} (h : CRl g z l r R H P0 c s K Kl) (hP : ∀ u, P0 u → P u) (he : ∀ x H2, R = some (.inr x, H2) → R' = some (.inr x, H2)) (hl : ∀ w p' H2, R = some (.inl w, H2) → kd g z l p' = 1 → Kl p' w H2 → Fr H H2 P0 → CR (.error (erx g z l p' 1)) R' H2 P c2 s2 K2) (hk : ∀ v w H2, r = .ok v → R = some (.inl w, H2) → K v w H2 → Fr H H2 P0 → H2.1 ≤ H.1 + c → H2.2.1 ≤ H.2.1 + s → CR (f v) R' H2 P c2 s2 K2) : CR (eb r f) R' H P (c + c2) (s + s2) K2 := by
  obtain ⟨H2, h1, h2, h3, h4⟩ := h
  cases r with
  | error er =>
    rcases h4 with ⟨x, h5, h6⟩ | ⟨w, p', h5, h6, rfl, h8⟩
    · exact ⟨H2, h1.mono fun u _ z => hP u z, by omega, by omega, x, he x H2 h5, h6⟩
    · obtain ⟨H3, k1, k2, k3, k4⟩ := hl w p' H2 h5 h6 h8 h1
      exact ⟨H3, (h1.mono fun u _ z => hP u z).tr k1, by omega, by omega, k4⟩
  | ok v =>
    obtain ⟨w, h5, h6⟩ := h4
    obtain ⟨H3, k1, k2, k3, k4⟩ := hk v w H2 rfl h5 h6 h1 h2 h3
    exact ⟨H3, (h1.mono fun u _ z => hP u z).tr k1, by omega, by omega, k4⟩
theorem ck_13900 {k g1 g2 fu la : Int} (hm : jm H b = some (13, 7, o13 0 .null 0 0 0 0 0)) (hf : fu = 0 ∨ fu = 1) (hl : la = 0 ∨ la = 1) : M2 (d + 3) 13900 [.ref b, .int (zI t), .ref e, .int (zI k), .int (zI g1), .int (zI g2), .int (zI fu), .int (zI la)] H = some (.inl none, jset H b (13, 7, o13 t (.ref e) k g1 g2 fu la)) := by
  have rv : (jtRecv 13900).elem 13 = true := rfl
  have i1 := ck_12900 (d := d) (v := t) (e := e) hm (Or.inr rfl)
  have o1 := okF_z hf
  have o2 := okF_z hl
  rw [Y13900 H rfl (jrecv_in hm rv), F13900_0]
  simp (disch := first | assumption | omega | decide | exact okF_i | exact okF_r | exact okF_n | exact okF_j | rfl) only [jc_ref, rI_int, rR_ref, rR_null, rJ_long, ckR_ref, ckR_null, ckr_ref, ckr_null, ckW_int, ckW_ref, ckW_null, cI_ok, cR_ok, cR_null, cV_ok, cJ_ok, qH_eq, qD_in, aG_ref, aS_ref, aL_ref, pF_ref, cK_ref, cK_null, zI_lit, zJ_lit, zI_add, zI_sub, zI_mul, zI_neg, zI_eq, zI_lt, zI_le, Int.reduceLT, Int.reduceLE, Int.reduceAdd, Int.reduceSub, Int.reduceMul, Int.reduceNeg, Int.reduceEq, Int.reduceNe, reduceIte, jf_in, pFc_in, aGi, aGb, aSi, aLc_in, cKc_in, nA_in, jm_s1, jm_s2, jm_p1, jm_p2, jm_b, jn_b, jn_s, jn_p, jset_jset, jset_jpush2, ckR_is, ckr_is, rR_is, ckW_is, cR_is, obi2, ckW_int, eq_self, if_true, ref_null, if_false, ne_eq, not_true_eq_false, not_false_eq_true, decide_true, decide_false, decide_not, Bool.true_and, Bool.false_and, Bool.and_true, Bool.and_false, Bool.true_or, Bool.false_or, Bool.or_true, Bool.or_false, Bool.not_true, Bool.not_false, Bool.false_eq_true, bI_t, bI_f, Int.natCast_one, Int.cast_ofNat_Int, Int.natCast_zero, ju_self, ju_ne, n13, o13s_0, o13s_1, o13s_2, o13s_3, o13s_4, o13s_5, o13s_6, i1]
end
