/-! the component's reader: words against names; which words are taken -/
-- jc_ref, rI_int, rR_ref, rR_null, rJ_long, ckR_ref, ckR_null, ckr_ref, ckr_null, ckW_int, ckW_ref, ckW_null, cI_ok, cR_ok, cR_null, cV_ok, cJ_ok, qH_eq, qD_in, aG_ref, aS_ref, aL_ref, pF_ref, cK_ref, cK_null, zI_lit, zJ_lit, zI_add, zI_sub, zI_mul, zI_neg, zI_eq, zI_lt, zI_le, Int.reduceLT, Int.reduceLE, Int.reduceAdd, Int.reduceSub, Int.reduceMul, Int.reduceNeg, Int.reduceEq, Int.reduceNe, reduceIte, jf_in, pFc_in, aGi, aGb, aSi, aLc_in, cKc_in, nA_in, jm_s1, jm_s2, jm_p1, jm_p2, jm_b, jn_b, jn_s, jn_p, jset_jset, jset_jpush2, ckR_is, ckr_is, rR_is, ckW_is, cR_is, obi2, ckW_int, eq_self, if_true, ref_null, if_false, ne_eq, not_true_eq_false, not_false_eq_true, decide_true, decide_false, decide_not, Bool.true_and, Bool.false_and, Bool.and_true, Bool.and_false, Bool.true_or, Bool.false_or, Bool.or_true, Bool.or_false, Bool.not_true, Bool.not_false, Bool.false_eq_true, bI_t, bI_f, Int.natCast_one, Int.cast_ofNat_Int, Int.natCast_zero, ju_self, ju_ne = jc_ref, rI_int, rR_ref, rR_null, rJ_long, ckR_ref, ckR_null, ckr_ref, ckr_null, ckW_int, ckW_ref, ckW_null, cI_ok, cR_ok, cR_null, cV_ok, cJ_ok, qH_eq, qD_in, aG_ref, aS_ref, aL_ref, pF_ref, cK_ref, cK_null, zI_lit, zJ_lit, zI_add, zI_sub, zI_mul, zI_neg, zI_eq, zI_lt, zI_le, Int.reduceLT, Int.reduceLE, Int.reduceAdd, Int.reduceSub, Int.reduceMul, Int.reduceNeg, Int.reduceEq, Int.reduceNe, reduceIte, jf_in, pFc_in, aGi, aGb, aSi, aLc_in, cKc_in, nA_in, jm_s1, jm_s2, jm_p1, jm_p2, jm_b, jn_b, jn_s, jn_p, jset_jset, jset_jpush2, ckR_is, ckr_is, rR_is, ckW_is, cR_is, obi2, ckW_int, eq_self, if_true, ref_null, if_false, ne_eq, not_true_eq_false, not_false_eq_true, decide_true, decide_false, decide_not, Bool.true_and, Bool.false_and, Bool.and_true, Bool.and_false, Bool.true_or, Bool.false_or, Bool.or_true, Bool.or_false, Bool.not_true, Bool.not_false, Bool.false_eq_true, bI_t, bI_f, Int.natCast_one, Int.cast_ofNat_Int, Int.natCast_zero, ju_self, ju_ne
theorem pk_snoc {b : List Int} {x : Int} : pk (b ++ [x]) = pk b * 256 + x := by unfold pk; rw [List.foldl_append]; rfl
theorem pk_pos {b : List Int} (h : ∀ u ∈ b, 97 ≤ u ∧ u ≤ 122) : 0 ≤ pk b ∧ (b ≠ [] → 97 ≤ pk b) := by
  have key : ∀ (n : Nat) (b : List Int), b.length = n → (∀ u ∈ b, 97 ≤ u ∧ u ≤ 122) → 0 ≤ pk b ∧ (b ≠ [] → 97 ≤ pk b) := by
    intro n
    induction n with
    | zero =>
      intro b hb _
      have : b = [] := List.length_eq_zero_iff.mp hb
      subst this
      exact ⟨Int.le_refl _, fun x => absurd rfl x⟩
    | succ n ih =>
      intro b hb h
      have ne : b ≠ [] := by intro e; rw [e] at hb; simp at hb
      have e := List.dropLast_concat_getLast ne
      have hl : b.dropLast.length = n := by rw [List.length_dropLast, hb]; rfl
      have i := (ih b.dropLast hl fun u hu => h u (List.dropLast_subset _ hu)).1
      have hx := h _ (List.getLast_mem ne)
      rw [← e, pk_snoc]
      exact ⟨by omega, fun _ => by omega⟩
  exact key _ b rfl h
theorem pk_inj : ∀ (n : Nat) {a b : List Int}, a.length = n → (∀ u ∈ a, 97 ≤ u ∧ u ≤ 122) → (∀ u ∈ b, 97 ≤ u ∧ u ≤ 122) → pk a = pk b → a = b := by
  intro n
  induction n with
  | zero =>
    intro a b ha h1 h2 h
    have : a = [] := List.length_eq_zero_iff.mp ha
    subst this
    cases b with
    | nil => rfl
    | cons x t =>
      have := (pk_pos h2).2 (by simp)
      rw [← h] at this
      exact absurd this (by decide)
  | succ n ih =>
    intro a b ha h1 h2 h
    have na : a ≠ [] := by intro e; rw [e] at ha; simp at ha
    have nb : b ≠ [] := by
      intro e
      have := (pk_pos h1).2 na
      rw [h, e] at this
      exact absurd this (by decide)
    have ea := List.dropLast_concat_getLast na
    have eb' := List.dropLast_concat_getLast nb
    have la := h1 _ (List.getLast_mem na)
    have lb := h2 _ (List.getLast_mem nb)
    have hl : a.dropLast.length = n := by rw [List.length_dropLast, ha]; rfl
    rw [← ea, ← eb', pk_snoc, pk_snoc] at h
    have e1 : a.getLast na = b.getLast nb := by omega
    have e2 : pk a.dropLast = pk b.dropLast := by omega
    have := ih hl (fun u hu => h1 u (List.dropLast_subset _ hu)) (fun u hu => h2 u (List.dropLast_subset _ hu)) e2
    rw [← ea, ← eb', this, e1]
theorem NmB.inj {a b : List Int} (ha : NmB a) (hb : NmB b) : (a = b) ↔ (pk a = pk b) := ⟨fun h => by rw [h], fun h => pk_inj _ rfl ha.2.2 hb.2.2 h⟩
/-! where a text is within another -/
def mtA (T c : List Int) (i : Nat) : Prop := ∀ k, k < c.length → T.getD (i + k) 0 = c.getD k 0
/-- the first of m places from i on at which it is -/
noncomputable def idxF (T c : List Int) : Nat → Nat → Int
  | 0, _ => -1
  | m + 1, i => @ite _ (mtA T c i) (Classical.propDecidable _) (i : Int) (idxF T c m (i + 1))
theorem idxF_t {T c : List Int} {m i : Nat} (h : mtA T c i) : idxF T c (m + 1) i = i := by unfold idxF; rw [if_pos h]
theorem idxF_f {T c : List Int} {m i : Nat} (h : ¬ mtA T c i) : idxF T c (m + 1) i = idxF T c m (i + 1) := by
  conv => lhs; unfold idxF
  rw [if_neg h]
theorem idxF_ge {T c : List Int} : ∀ (m i : Nat), (0 ≤ idxF T c m i) ↔ ∃ j, i ≤ j ∧ j < i + m ∧ mtA T c j
  | 0, i => ⟨fun h => absurd h (by show ¬ (0 : Int) ≤ -1; decide), fun ⟨j, a, b, _⟩ => by omega⟩
  | m + 1, i => by
    by_cases h : mtA T c i
    · rw [idxF_t h]
      exact ⟨fun _ => ⟨i, Nat.le_refl _, by omega, h⟩, fun _ => by omega⟩
    · rw [idxF_f h, idxF_ge m (i + 1)]
      constructor
      · rintro ⟨j, a, b, c⟩; exact ⟨j, by omega, by omega, c⟩
      · rintro ⟨j, a, b, c⟩
        by_cases e : j = i
        · subst e; exact absurd c h
        · exact ⟨j, by omega, by omega, c⟩
section
variable {d : Nat} {H : AH} {e1 e2 te1 te2 : Nat} {g1 g2 : Nat → Value} {T c : List Int}
/-- a text's bytes -/
def TxA (H : AH) (e te : Nat) (g : Nat → Value) (T : List Int) : Prop := jm H e = some (te, T.length, g) ∧ ([1010, 1011, 1020] : List Nat).elem te = true ∧ Nat.ble 1000 te = true ∧ (∀ k, k < T.length → g k = .int (zI (T.getD k 0))) ∧ T.length < 1000 ∧ ∀ z ∈ T, 0 ≤ z ∧ z < 128
theorem StrAt.tx {a : Nat} (h : StrAt H a T) (hl : T.length < 1000) : ∃ (t e te : Nat) (f g : Nat → Value), jm H a = some (t, 4, f) ∧ (t = 50 ∨ t = 150) ∧ f 0 = .ref e ∧ f 1 = .int 0 ∧ TxA H e te g T := by
  obtain ⟨t, e, te, f, g, ⟨a1, a2, a3, a4⟩, a5, a6, a7, a8, -⟩ := h
  refine ⟨t, e, te, f, g, a1, a2, a3, a4, a5, ?_, ?_, a7, hl, a8⟩
  · rcases a6 with x | x <;> rw [x] <;> rfl
  · rcases a6 with x | x <;> rw [x] <;> rfl
theorem TxA.rg (h : TxA H e1 te1 g1 T) {k : Nat} : 0 ≤ T.getD k 0 ∧ T.getD k 0 < 128 := by
  by_cases hk : k < T.length
  · rw [List.getD_eq_getElem?_getD, List.getElem?_eq_getElem hk]
    exact h.2.2.2.2.2 _ (List.getElem_mem hk)
  · rw [List.getD_eq_getElem?_getD, List.getElem?_eq_none (by omega)]
    show (0 : Int) ≤ 0 ∧ (0 : Int) < 128
    omega
theorem TxA.at (h : TxA H e1 te1 g1 T) {i : Int} {k : Nat} {β : Type} {κ : Value → Option β} {u : Ph κ} (hi : i = k) (hk : k < T.length) : zqG H (.ref e1) [1010, 1011, 1020] (zI i) κ u = κ (.int (zI (T.getD k 0))) := by
  obtain ⟨a1, a2, a3, a4, a5, a6⟩ := h
  rw [aG_ref, a1, aGc_V a2 (by omega) (by omega) (by omega), show i.toNat = k by omega, a4 k hk]
variable {i5 : Int32} {v8 v9 v10 : Value}
theorem ix_76 (hT : TxA H e1 te1 g1 T) (hc : TxA H e2 te2 g2 c) {i : Nat} {X : Rz} (hi : i + c.length ≤ T.length) (hX : ∀ v8 v9 v10, G2 d 54010 14 [.ref e1, .int (zI T.length), .ref e2, .int (zI c.length), .int (zI 0), .int i5, .int (zI (T.length - c.length)), .int (zI (i + 1)), v8, v9, v10] [] H = X) : ∀ (m k : Nat), k + m = c.length → 1 ≤ k →
    ((∀ k', k ≤ k' → k' < c.length → T.getD (i + k') 0 = c.getD k' 0) → G2 d 54010 76 [.ref e1, .int (zI T.length), .ref e2, .int (zI c.length), .int (zI 0), .int i5, .int (zI (T.length - c.length)), .int (zI i), .int (zI (i + k)), .int (zI (i + c.length)), .int (zI k)] [] H = some (.inl (some (.int (zI i))), H)) ∧
    ((∃ k', k ≤ k' ∧ k' < c.length ∧ T.getD (i + k') 0 ≠ c.getD k' 0) → G2 d 54010 76 [.ref e1, .int (zI T.length), .ref e2, .int (zI c.length), .int (zI 0), .int i5, .int (zI (T.length - c.length)), .int (zI i), .int (zI (i + k)), .int (zI (i + c.length)), .int (zI k)] [] H = X) := by
  have hl := hT.2.2.2.2.1
  intro m
  induction m with
  | zero =>
    intro k hk k1
    refine ⟨fun _ => ?_, fun ⟨k', a, b, _⟩ => by omega⟩
    rw [F54010_76, if_pos (by rw [zI_le (by omega) (by omega) (by omega) (by omega)]; omega), if_pos (by rw [zI_eq (by omega) (by omega) (by omega) (by omega)]; omega)]
  | succ m ih =>
    intro k hk k1
    have r1 := hT.rg (k := i + k)
    have r2 := hc.rg (k := k)
    have a1 := fun {β : Type} {κ : Value → Option β} {u : Ph κ} => hT.at (i := (i : Int) + k) (k := i + k) (κ := κ) (u := u) (by omega) (by omega)
    have a2 := fun {β : Type} {κ : Value → Option β} {u : Ph κ} => hc.at (i := (k : Int)) (k := k) (κ := κ) (u := u) (by omega) (by omega)
    have nle : ¬ zI ((i : Int) + c.length) ≤ zI ((i : Int) + k) := by rw [zI_le (by omega) (by omega) (by omega) (by omega)]; omega
    have neq : ¬ zI ((i : Int) + k) = zI ((i : Int) + c.length) := by rw [zI_eq (by omega) (by omega) (by omega) (by omega)]; omega
    have ih' := ih (k + 1) (by omega) (by omega)
    rw [show ((k + 1 : Nat) : Int) = (k : Int) + 1 by omega, ← Int.add_assoc] at ih'
    by_cases e : T.getD (i + k) 0 = c.getD k 0
    · have st : G2 d 54010 76 [.ref e1, .int (zI T.length), .ref e2, .int (zI c.length), .int (zI 0), .int i5, .int (zI (T.length - c.length)), .int (zI i), .int (zI (i + k)), .int (zI (i + c.length)), .int (zI k)] [] H = G2 d 54010 76 [.ref e1, .int (zI T.length), .ref e2, .int (zI c.length), .int (zI 0), .int i5, .int (zI (T.length - c.length)), .int (zI i), .int (zI (i + k + 1)), .int (zI (i + c.length)), .int (zI (k + 1))] [] H := by
        conv => lhs; rw [F54010_76]
        rw [if_neg nle, ckR_ref, a1, rI_int, ckR_ref, a2, rI_int, if_pos (by rw [e])]
        simp only [zI_lit, zI_add]
      rw [st]
      refine ⟨fun h => ih'.1 fun k' a b => h k' (by omega) b, fun ⟨k', a, b, x⟩ => ih'.2 ⟨k', ?_, b, x⟩⟩
      have : k' ≠ k := fun z => x (by rw [z]; exact e)
      omega
    · refine ⟨fun h => absurd (h k (Nat.le_refl _) (by omega)) e, fun _ => ?_⟩
      rw [F54010_76, if_neg nle, ckR_ref, a1, rI_int, ckR_ref, a2, rI_int, if_neg (by rw [zI_eq (by omega) (by omega) (by omega) (by omega)]; exact e), if_neg neq]
      simp only [zI_lit, zI_add]
      exact hX _ _ _
/-- the search, from place i on; m: places left -/
theorem ix_14 (hT : TxA H e1 te1 g1 T) (hc : TxA H e2 te2 g2 c) (h1 : 1 ≤ c.length) (hle : c.length ≤ T.length) (hi5 : i5 = zI (c.getD 0 0)) : ∀ (m : Nat), (∀ (i : Nat) (v8 v9 v10 : Value), i + m = T.length - c.length + 1 → G2 d 54010 14 [.ref e1, .int (zI T.length), .ref e2, .int (zI c.length), .int (zI 0), .int i5, .int (zI (T.length - c.length)), .int (zI i), v8, v9, v10] [] H = some (.inl (some (.int (zI (idxF T c m i)))), H)) ∧
    (∀ (i : Nat) (v8 v9 v10 : Value), i + 1 + m = T.length - c.length + 1 → G2 d 54010 30 [.ref e1, .int (zI T.length), .ref e2, .int (zI c.length), .int (zI 0), .int i5, .int (zI (T.length - c.length)), .int (zI i), v8, v9, v10] [] H = some (.inl (some (.int (zI (idxF T c m (i + 1))))), H)) := by
  have hl := hT.2.2.2.2.1
  subst hi5
  have rc := hc.rg (k := 0)
  have past : ∀ (i : Int) (v8 v9 v10 : Value), (T.length : Int) - c.length < i → i ≤ 2000 → G2 d 54010 14 [.ref e1, .int (zI T.length), .ref e2, .int (zI c.length), .int (zI 0), .int (zI (c.getD 0 0)), .int (zI (T.length - c.length)), .int (zI i), v8, v9, v10] [] H = some (.inl (some (.int (zI (-1)))), H) := fun i v8 v9 v10 h h2 => by
    rw [F54010_14, if_pos (by rw [zI_lt (by omega) (by omega) (by omega) (by omega)]; exact h)]
    rfl
  intro m
  induction m with
  | zero =>
    refine ⟨fun i v8 v9 v10 h => past i v8 v9 v10 (by omega) (by omega), fun i v8 v9 v10 h => ?_⟩
    have lt1 : zI ((T.length : Int) - c.length) < zI ((i : Int) + 1) := by rw [zI_lt (by omega) (by omega) (by omega) (by omega)]; omega
    rw [F54010_30]
    simp only [zI_lit, zI_add]
    rw [if_pos lt1, F54010_52, if_pos lt1]
    simp only [zI_lit, zI_add]
    exact past _ _ _ _ (by omega) (by omega)
  | succ m ih =>
    obtain ⟨iQ, iR⟩ := ih
    have C : ∀ (i : Nat) (v8 v9 v10 : Value), i + (m + 1) = T.length - c.length + 1 → T.getD i 0 = c.getD 0 0 → G2 d 54010 52 [.ref e1, .int (zI T.length), .ref e2, .int (zI c.length), .int (zI 0), .int (zI (c.getD 0 0)), .int (zI (T.length - c.length)), .int (zI i), v8, v9, v10] [] H = some (.inl (some (.int (zI (idxF T c (m + 1) i)))), H) := fun i v8 v9 v10 h e => by
      have st : G2 d 54010 52 [.ref e1, .int (zI T.length), .ref e2, .int (zI c.length), .int (zI 0), .int (zI (c.getD 0 0)), .int (zI (T.length - c.length)), .int (zI i), v8, v9, v10] [] H = G2 d 54010 76 [.ref e1, .int (zI T.length), .ref e2, .int (zI c.length), .int (zI 0), .int (zI (c.getD 0 0)), .int (zI (T.length - c.length)), .int (zI i), .int (zI (i + (1 : Nat))), .int (zI (i + c.length)), .int (zI (1 : Nat))] [] H := by
        rw [F54010_52, if_neg (by rw [zI_lt (by omega) (by omega) (by omega) (by omega)]; omega)]
        simp only [zI_lit, zI_add, zI_sub]
        rw [show (i : Int) + 1 + c.length - 1 = i + c.length by omega]
        rfl
      obtain ⟨x1, x2⟩ := ix_76 (d := d) (i5 := zI (c.getD 0 0)) hT hc (i := i) (X := some (.inl (some (.int (zI (idxF T c m (i + 1))))), H)) (by omega) (fun v8 v9 v10 => by
        have := iQ (i + 1) v8 v9 v10 (by omega)
        rw [show ((i + 1 : Nat) : Int) = (i : Int) + 1 by omega] at this
        exact this) (c.length - 1) 1 (by omega) (Nat.le_refl _)
      rw [st]
      by_cases hm : mtA T c i
      · rw [idxF_t hm]
        exact x1 fun k' _ b => hm k' b
      · rw [idxF_f hm]
        refine x2 (Classical.byContradiction fun no => hm fun k hk => Classical.byContradiction fun ne => ?_)
        by_cases k0 : k = 0
        · subst k0; rw [Nat.add_zero] at ne; exact ne e
        · exact no ⟨k, by omega, hk, ne⟩
    have nm : ∀ i, T.getD i 0 ≠ c.getD 0 0 → ¬ mtA T c i := fun i e h => e (by have := h 0 (by omega); rwa [Nat.add_zero] at this)
    refine ⟨fun i v8 v9 v10 h => ?_, fun i v8 v9 v10 h => ?_⟩
    · have a1 := fun {β : Type} {κ : Value → Option β} {u : Ph κ} => hT.at (i := (i : Int)) (k := i) (κ := κ) (u := u) (by omega) (by omega)
      have r1 := hT.rg (k := i)
      rw [F54010_14, if_neg (by rw [zI_lt (by omega) (by omega) (by omega) (by omega)]; omega), ckR_ref, a1, rI_int]
      by_cases e : T.getD i 0 = c.getD 0 0
      · rw [if_pos (by rw [e])]; exact C i v8 v9 v10 h e
      · rw [if_neg (by rw [zI_eq (by omega) (by omega) (by omega) (by omega)]; exact e), idxF_f (nm i e)]
        exact iR i v8 v9 v10 (by omega)
    · have a1 := fun {β : Type} {κ : Value → Option β} {u : Ph κ} => hT.at (i := (i : Int) + 1) (k := i + 1) (κ := κ) (u := u) (by omega) (by omega)
      have r1 := hT.rg (k := i + 1)
      rw [F54010_30]
      simp only [zI_lit, zI_add]
      rw [if_neg (by rw [zI_lt (by omega) (by omega) (by omega) (by omega)]; omega), ckR_ref]
      simp only [zI_lit, zI_add]
      rw [a1, rI_int]
      by_cases e : T.getD (i + 1) 0 = c.getD 0 0
      · rw [if_pos (by rw [e])]
        have := C (i + 1) v8 v9 v10 (by omega) e
        rw [show ((i + 1 : Nat) : Int) = (i : Int) + 1 by omega] at this
        try simp only [zI_lit, zI_add]
        exact this
      · rw [if_neg (by rw [zI_eq (by omega) (by omega) (by omega) (by omega)]; exact e), idxF_f (nm _ e)]
        try simp only [zI_lit, zI_add]
        have := iR (i + 1) v8 v9 v10 (by omega)
        rw [show ((i + 1 : Nat) : Int) = (i : Int) + 1 by omega] at this
        exact this
theorem h_idxOf {a b : Nat} (hT : StrAt H a T) (hc : StrAt H b c) (h1 : 1 ≤ c.length) (hle : c.length ≤ T.length) (hl : T.length < 1000) : M2 (d + 4) 50010 [.ref a, .ref b] H = some (.inl (some (.int (zI (idxF T c (T.length - c.length + 1) 0)))), H) := by
  obtain ⟨t1, e1, te1, f1, g1, x1, x2, x3, x4, x5⟩ := hT.tx hl
  obtain ⟨t2, e2, te2, f2, g2, y1, y2, y3, y4, y5⟩ := hc.tx (by omega)
  have el1 : ([50, 150] : List Nat).elem t1 = true := by rcases x2 with e | e <;> rw [e] <;> rfl
  have el2 : ([50, 150] : List Nat).elem t2 = true := by rcases y2 with e | e <;> rw [e] <;> rfl
  have r50 : (jtRecv 50010).elem t1 = true := by rcases x2 with e | e <;> rw [e] <;> rfl
  have r5 : (jtRecv 50005).elem t1 = true := by rcases x2 with e | e <;> rw [e] <;> rfl
  have r5' : (jtRecv 50005).elem t2 = true := by rcases y2 with e | e <;> rw [e] <;> rfl
  have r11 : (jtRecv 50011).elem t1 = true := by rcases x2 with e | e <;> rw [e] <;> rfl
  have c1 : M2 (d + 3) 50005 [.ref a] H = some (.inl (some (.int (zI 0))), H) := by
    rw [Y50005 H (jrecv_in x1 r5), F50005_0]
    simp (disch := first | assumption | omega | decide | exact okF_i | exact okF_r | exact okF_n | exact okF_j | rfl) only [jc_ref, rI_int, rR_ref, rR_null, rJ_long, ckR_ref, ckR_null, ckr_ref, ckr_null, ckW_int, ckW_ref, ckW_null, cI_ok, cR_ok, cR_null, cV_ok, cJ_ok, qH_eq, qD_in, aG_ref, aS_ref, aL_ref, pF_ref, cK_ref, cK_null, zI_lit, zJ_lit, zI_add, zI_sub, zI_mul, zI_neg, zI_eq, zI_lt, zI_le, Int.reduceLT, Int.reduceLE, Int.reduceAdd, Int.reduceSub, Int.reduceMul, Int.reduceNeg, Int.reduceEq, Int.reduceNe, reduceIte, jf_in, pFc_in, aGi, aGb, aSi, aLc_in, cKc_in, nA_in, jm_s1, jm_s2, jm_p1, jm_p2, jm_b, jn_b, jn_s, jn_p, jset_jset, jset_jpush2, ckR_is, ckr_is, rR_is, ckW_is, cR_is, obi2, ckW_int, eq_self, if_true, ref_null, if_false, ne_eq, not_true_eq_false, not_false_eq_true, decide_true, decide_false, decide_not, Bool.true_and, Bool.false_and, Bool.and_true, Bool.and_false, Bool.true_or, Bool.false_or, Bool.or_true, Bool.or_false, Bool.not_true, Bool.not_false, Bool.false_eq_true, bI_t, bI_f, Int.natCast_one, Int.cast_ofNat_Int, Int.natCast_zero, ju_self, ju_ne, x1, x4]
    rfl
  have c2 : M2 (d + 3) 50005 [.ref b] H = some (.inl (some (.int (zI 0))), H) := by
    rw [Y50005 H (jrecv_in y1 r5'), F50005_0]
    simp (disch := first | assumption | omega | decide | exact okF_i | exact okF_r | exact okF_n | exact okF_j | rfl) only [jc_ref, rI_int, rR_ref, rR_null, rJ_long, ckR_ref, ckR_null, ckr_ref, ckr_null, ckW_int, ckW_ref, ckW_null, cI_ok, cR_ok, cR_null, cV_ok, cJ_ok, qH_eq, qD_in, aG_ref, aS_ref, aL_ref, pF_ref, cK_ref, cK_null, zI_lit, zJ_lit, zI_add, zI_sub, zI_mul, zI_neg, zI_eq, zI_lt, zI_le, Int.reduceLT, Int.reduceLE, Int.reduceAdd, Int.reduceSub, Int.reduceMul, Int.reduceNeg, Int.reduceEq, Int.reduceNe, reduceIte, jf_in, pFc_in, aGi, aGb, aSi, aLc_in, cKc_in, nA_in, jm_s1, jm_s2, jm_p1, jm_p2, jm_b, jn_b, jn_s, jn_p, jset_jset, jset_jpush2, ckR_is, ckr_is, rR_is, ckW_is, cR_is, obi2, ckW_int, eq_self, if_true, ref_null, if_false, ne_eq, not_true_eq_false, not_false_eq_true, decide_true, decide_false, decide_not, Bool.true_and, Bool.false_and, Bool.and_true, Bool.and_false, Bool.true_or, Bool.false_or, Bool.or_true, Bool.or_false, Bool.not_true, Bool.not_false, Bool.false_eq_true, bI_t, bI_f, Int.natCast_one, Int.cast_ofNat_Int, Int.natCast_zero, ju_self, ju_ne, y1, y4]
    rfl
  have c3 : M2 (d + 3) 50011 [.ref a] H = some (.inl (some (.int (zI 1))), H) := by
    rw [Y50011 H (jrecv_in x1 r11), F50011_0]
    simp (disch := first | assumption | omega | decide | exact okF_i | exact okF_r | exact okF_n | exact okF_j | rfl) only [jc_ref, rI_int, rR_ref, rR_null, rJ_long, ckR_ref, ckR_null, ckr_ref, ckr_null, ckW_int, ckW_ref, ckW_null, cI_ok, cR_ok, cR_null, cV_ok, cJ_ok, qH_eq, qD_in, aG_ref, aS_ref, aL_ref, pF_ref, cK_ref, cK_null, zI_lit, zJ_lit, zI_add, zI_sub, zI_mul, zI_neg, zI_eq, zI_lt, zI_le, Int.reduceLT, Int.reduceLE, Int.reduceAdd, Int.reduceSub, Int.reduceMul, Int.reduceNeg, Int.reduceEq, Int.reduceNe, reduceIte, jf_in, pFc_in, aGi, aGb, aSi, aLc_in, cKc_in, nA_in, jm_s1, jm_s2, jm_p1, jm_p2, jm_b, jn_b, jn_s, jn_p, jset_jset, jset_jpush2, ckR_is, ckr_is, rR_is, ckW_is, cR_is, obi2, ckW_int, eq_self, if_true, ref_null, if_false, ne_eq, not_true_eq_false, not_false_eq_true, decide_true, decide_false, decide_not, Bool.true_and, Bool.false_and, Bool.and_true, Bool.and_false, Bool.true_or, Bool.false_or, Bool.or_true, Bool.or_false, Bool.not_true, Bool.not_false, Bool.false_eq_true, bI_t, bI_f, Int.natCast_one, Int.cast_ofNat_Int, Int.natCast_zero, ju_self, ju_ne, x1, x4]
  have l1 := x5.1
  have l2 := y5.1
  have b1 := x5.2.2.1
  have b2 := y5.2.2.1
  have lT := x5.2.2.2.2.1
  have a2 := fun {β : Type} {κ : Value → Option β} {u : Ph κ} => y5.at (i := 0) (k := 0) (κ := κ) (u := u) rfl (by omega)
  have i0 := (ix_14 (d := d + 1) (i5 := zI (c.getD 0 0)) x5 y5 h1 hle rfl (T.length - c.length + 1)).1 0 jno jno jno (by omega)
  have c4 : M2 (d + 2) 54010 [.ref e1, .int (zI T.length), .ref e2, .int (zI c.length), .int (zI 0)] H = some (.inl (some (.int (zI (idxF T c (T.length - c.length + 1) 0)))), H) := by
    rw [← i0, Y54010 H rfl rfl, F54010_0, ckR_ref]
    simp only [zI_lit, zI_sub, zI_add]
    rw [a2, rI_int]
    simp only [zI_lit, zI_sub]
    rfl
  have c5 : M2 (d + 3) 54009 [.ref e1, .ref e2] H = some (.inl (some (.int (zI (idxF T c (T.length - c.length + 1) 0)))), H) := by
    rw [Y54009 H rfl rfl, F54009_0]
    have n1 : ¬ (c.length : Int) = 0 := by omega
    have n2 : ¬ (T.length : Int) = 0 := by omega
    simp (disch := first | assumption | omega | decide | exact okF_i | exact okF_r | exact okF_n | exact okF_j | rfl) only [jc_ref, rI_int, rR_ref, rR_null, rJ_long, ckR_ref, ckR_null, ckr_ref, ckr_null, ckW_int, ckW_ref, ckW_null, cI_ok, cR_ok, cR_null, cV_ok, cJ_ok, qH_eq, qD_in, aG_ref, aS_ref, aL_ref, pF_ref, cK_ref, cK_null, zI_lit, zJ_lit, zI_add, zI_sub, zI_mul, zI_neg, zI_eq, zI_lt, zI_le, Int.reduceLT, Int.reduceLE, Int.reduceAdd, Int.reduceSub, Int.reduceMul, Int.reduceNeg, Int.reduceEq, Int.reduceNe, reduceIte, jf_in, pFc_in, aGi, aGb, aSi, aLc_in, cKc_in, nA_in, jm_s1, jm_s2, jm_p1, jm_p2, jm_b, jn_b, jn_s, jn_p, jset_jset, jset_jpush2, ckR_is, ckr_is, rR_is, ckW_is, cR_is, obi2, ckW_int, eq_self, if_true, ref_null, if_false, ne_eq, not_true_eq_false, not_false_eq_true, decide_true, decide_false, decide_not, Bool.true_and, Bool.false_and, Bool.and_true, Bool.and_false, Bool.true_or, Bool.false_or, Bool.or_true, Bool.or_false, Bool.not_true, Bool.not_false, Bool.false_eq_true, bI_t, bI_f, Int.natCast_one, Int.cast_ofNat_Int, Int.natCast_zero, ju_self, ju_ne, l1, l2, n1, n2, c4]
  rw [Y50010 H rfl (jrecv_in x1 r50), F50010_0]
  simp (disch := first | assumption | omega | decide | exact okF_i | exact okF_r | exact okF_n | exact okF_j | rfl) only [jc_ref, rI_int, rR_ref, rR_null, rJ_long, ckR_ref, ckR_null, ckr_ref, ckr_null, ckW_int, ckW_ref, ckW_null, cI_ok, cR_ok, cR_null, cV_ok, cJ_ok, qH_eq, qD_in, aG_ref, aS_ref, aL_ref, pF_ref, cK_ref, cK_null, zI_lit, zJ_lit, zI_add, zI_sub, zI_mul, zI_neg, zI_eq, zI_lt, zI_le, Int.reduceLT, Int.reduceLE, Int.reduceAdd, Int.reduceSub, Int.reduceMul, Int.reduceNeg, Int.reduceEq, Int.reduceNe, reduceIte, jf_in, pFc_in, aGi, aGb, aSi, aLc_in, cKc_in, nA_in, jm_s1, jm_s2, jm_p1, jm_p2, jm_b, jn_b, jn_s, jn_p, jset_jset, jset_jpush2, ckR_is, ckr_is, rR_is, ckW_is, cR_is, obi2, ckW_int, eq_self, if_true, ref_null, if_false, ne_eq, not_true_eq_false, not_false_eq_true, decide_true, decide_false, decide_not, Bool.true_and, Bool.false_and, Bool.and_true, Bool.and_false, Bool.true_or, Bool.false_or, Bool.or_true, Bool.or_false, Bool.not_true, Bool.not_false, Bool.false_eq_true, bI_t, bI_f, Int.natCast_one, Int.cast_ofNat_Int, Int.natCast_zero, ju_self, ju_ne, c1, c2, c3, x1, x3, y1, y3, c5]
end
/-! which words are taken -/
theorem bsL16_len : (bsL 16).length = 153 := by decide +kernel
/-- a word behind a blank, up to the next one -/
def wrd (T : List Int) (i : Nat) : List Int := (T.drop (i + 1)).takeWhile (fun x => decide (x ≠ 32))
theorem takeW_eq : ∀ {s r : List Int}, (∀ u ∈ s, u ≠ 32) → (s ++ 32 :: r).takeWhile (fun x => decide (x ≠ 32)) = s
  | [], r, _ => by simp
  | a :: s, r, h => by
    have ha := h a List.mem_cons_self
    rw [List.cons_append, List.takeWhile_cons, if_pos (by simpa using ha), takeW_eq fun u hu => h u (List.mem_cons_of_mem _ hu)]
theorem mtA_drop {T c : List Int} {i : Nat} (h : mtA T c i) (hl : i + c.length ≤ T.length) : T.drop i = c ++ T.drop (i + c.length) := by
  refine List.ext_getElem ?_ fun k h1 h2 => ?_
  · rw [List.length_append, List.length_drop, List.length_drop]; omega
  · rw [List.getElem_drop]
    by_cases hk : k < c.length
    · rw [List.getElem_append_left hk]
      have := h k hk
      rw [List.getD_eq_getElem?_getD, List.getD_eq_getElem?_getD, List.getElem?_eq_getElem (by rw [List.length_drop] at h1; omega), List.getElem?_eq_getElem hk] at this
      exact this
    · rw [List.getElem_append_right (by omega), List.getElem_drop]
      congr 1; omega
theorem taken_all : ∀ i : Fin 153, (bsL 16).getD i.val 0 = 32 → wrd (bsL 16) i.val = [] ∨ rsv.elem (pk (wrd (bsL 16) i.val)) = true := by decide +kernel
theorem mtA_of {T c : List Int} {i : Nat} (h : (T.drop i).take c.length = c) : mtA T c i := fun k hk => by
  have hk2 : k < ((T.drop i).take c.length).length := by rw [h]; exact hk
  rw [List.length_take, List.length_drop] at hk2
  have : ((T.drop i).take c.length).getD k 0 = c.getD k 0 := congrArg (fun l => l.getD k 0) h
  rw [List.getD_eq_getElem?_getD, List.getElem?_eq_getElem (by rw [List.length_take, List.length_drop]; omega)] at this
  rw [← this, List.getD_eq_getElem?_getD, List.getElem?_eq_getElem (by omega)]
  simp
/-- where each taken word lies -/
def whrL : List (Nat × Nat) := [(24, 0), (25, 6), (26, 10), (33, 14), (29, 17), (30, 24), (31, 31), (32, 37), (34, 43), (35, 48), (27, 53), (28, 61), (36, 66), (19, 72), (20, 79), (21, 86), (22, 90), (18, 93), (12, 98), (13, 104), (14, 111), (38, 116), (37, 120), (39, 123), (40, 127), (41, 132), (42, 138), (43, 145), (44, 148)]
theorem whr_ok : ∀ x ∈ whrL, ((bsL 16).drop x.2).take ([32] ++ bsL x.1 ++ [32]).length = [32] ++ bsL x.1 ++ [32] ∧ x.2 + ([32] ++ bsL x.1 ++ [32]).length ≤ 153 ∧ NmB (bsL x.1) := by
  unfold NmB
  decide +kernel
theorem whr_all : ∀ w ∈ rsv, ∃ x ∈ whrL, pk (bsL x.1) = w := by decide +kernel
theorem taken_iff {s : List Int} (hs : NmB s) : (idxF (bsL 16) ([32] ++ s ++ [32]) ((bsL 16).length - ([32] ++ s ++ [32]).length + 1) 0 < 0) ↔ rsv.elem (pk s) = false := by
  have cl : ([32] ++ s ++ [32]).length = s.length + 2 := by simp
  have s7 := hs.2.1
  have s0 := hs.1
  have n32 : ∀ u ∈ s, u ≠ 32 := fun u hu => by have := hs.2.2 u hu; omega
  have key : (0 ≤ idxF (bsL 16) ([32] ++ s ++ [32]) ((bsL 16).length - ([32] ++ s ++ [32]).length + 1) 0) ↔ rsv.elem (pk s) = true := by
    rw [idxF_ge, bsL16_len, cl]
    constructor
    · rintro ⟨j, -, hj, hm⟩
      have dr := mtA_drop hm (by rw [cl, bsL16_len]; omega)
      have w : wrd (bsL 16) j = s := by
        unfold wrd
        have : (bsL 16).drop (j + 1) = s ++ 32 :: (bsL 16).drop (j + (s.length + 2)) := by
          rw [← List.drop_drop, dr, cl]
          simp
        rw [this]
        exact takeW_eq n32
      have f32 : (bsL 16).getD j 0 = 32 := by
        have := hm 0 (by rw [cl]; omega)
        rw [Nat.add_zero] at this
        rw [this]; rfl
      rcases taken_all ⟨j, by omega⟩ f32 with e | e
      · rw [w] at e
        rw [e] at s0; exact absurd s0 (by decide)
      · rw [w] at e; exact e
    · intro h
      have hm : pk s ∈ rsv := by simpa using h
      obtain ⟨x, x1, x2⟩ := whr_all _ hm
      obtain ⟨y1, y2, y3⟩ := whr_ok x x1
      have e : bsL x.1 = s := (y3.inj hs).mpr x2
      rw [e] at y1 y2
      rw [cl] at y2
      exact ⟨x.2, Nat.zero_le _, by omega, mtA_of y1⟩
  constructor
  · intro h
    cases e : rsv.elem (pk s) with
    | false => rfl
    | true => have := key.mpr e; omega
  · intro h
    refine Int.not_le.mp fun x => ?_
    rw [key.mp x] at h
    cases h
