/-! what the interpreter does with pseudo-cells it does with what they stand for: one instruction -/
def SimR (Fo : Nat → Option Cl) (r r2 : Rz) : Prop := ∀ o H2, r = some (o, H2) → ∃ h2, r2 = some (o, h2) ∧ RX Fo h2 H2
def SimS (Fo : Nat → Option Cl) : Rs → Rs → Prop
  | none, _ => True
  | some (.inl c), r => ∃ h2, r = some (.inl (c.1, c.2.1, c.2.2.1, h2)) ∧ RX Fo h2 c.2.2.2
  | some (.inr z), r => ∃ h2, r = some (.inr (z.1, h2)) ∧ RX Fo h2 z.2
theorem psT_200 {t : Nat} (h : t < 200) : psT t = false := by
  unfold psT
  rw [Bool.and_eq_false_iff]
  exact Or.inl (Bool.eq_false_iff.mpr fun q => by have := Nat.le_of_ble_eq_true q; omega)
theorem psT_1000 {t : Nat} (h : 1000 ≤ t) : psT t = false := by
  unfold psT
  rw [Bool.and_eq_false_iff]
  exact Or.inr (Bool.eq_false_iff.mpr fun q => by have : t < 1000 := Nat.le_of_ble_eq_true q; omega)
theorem psT_out {t : Nat} (h : t < 200 ∨ 1000 ≤ t) : psT t = false := h.elim psT_200 psT_1000
section
variable {Fo : Nat → Option Cl} {h H : AH} {r r2 : Rs}
theorem si_none : SimS Fo none r := trivial
theorem si_nx {pc : Nat} {L st : List Value} (R : RX Fo h H) : SimS Fo (nx pc L st H) (nx pc L st h) := ⟨h, rfl, R⟩
theorem si_out {o : Out} (R : RX Fo h H) : SimS Fo (some (.inr (o, H))) (some (.inr (o, h))) := ⟨h, rfl, R⟩
theorem si_gd {b : Bool} (g : SimS Fo r r2) : SimS Fo (gd b r) (gd b r2) := by cases b <;> first | exact g | trivial
theorem si_sA {st : List Value} {κ κ2 : Value → List Value → Rs} (g : ∀ v r, SimS Fo (κ v r) (κ2 v r)) : SimS Fo (sA st κ) (sA st κ2) := by unfold sA; split <;> first | exact g _ _ | trivial
theorem si_sI {st : List Value} {κ κ2 : Int32 → List Value → Rs} (g : ∀ v r, SimS Fo (κ v r) (κ2 v r)) : SimS Fo (sI st κ) (sI st κ2) := by unfold sI; split <;> first | exact g _ _ | trivial
theorem si_sJ {st : List Value} {κ κ2 : Int64 → List Value → Rs} (g : ∀ v r, SimS Fo (κ v r) (κ2 v r)) : SimS Fo (sJ st κ) (sJ st κ2) := by unfold sJ; split <;> first | exact g _ _ | trivial
theorem si_rI {v : Value} {κ κ2 : Int32 → Rs} (g : ∀ v, SimS Fo (κ v) (κ2 v)) : SimS Fo (rI v κ) (rI v κ2) := by unfold rI; split <;> first | exact g _ | trivial
theorem si_rJ {v : Value} {κ κ2 : Int64 → Rs} (g : ∀ v, SimS Fo (κ v) (κ2 v)) : SimS Fo (rJ v κ) (rJ v κ2) := by unfold rJ; split <;> first | exact g _ | trivial
theorem si_rR {v : Value} {κ κ2 : Value → Rs} (g : ∀ v, SimS Fo (κ v) (κ2 v)) : SimS Fo (rR v κ) (rR v κ2) := by
  unfold rR; split
  · exact g _
  · exact g _
  · trivial
theorem si_sR {st : List Value} {κ κ2 : Value → List Value → Rs} (g : ∀ v r, SimS Fo (κ v r) (κ2 v r)) : SimS Fo (sR st κ) (sR st κ2) := by
  unfold sR; split
  · exact si_rR fun _ => g _ _
  · trivial
theorem si_ite {p : Prop} [Decidable p] {a b : Rs} (g1 : p → SimS Fo r a) (g2 : ¬ p → SimS Fo r2 b) : SimS Fo (if p then r else r2) (if p then a else b) := by
  by_cases hp : p
  · rw [if_pos hp, if_pos hp]; exact g1 hp
  · rw [if_neg hp, if_neg hp]; exact g2 hp
theorem si_bif {p : Bool} {a b : Rs} (g1 : p = true → SimS Fo r a) (g2 : p = false → SimS Fo r2 b) : SimS Fo (bif p then r else r2) (bif p then a else b) := by
  cases p
  · exact g2 rfl
  · exact g1 rfl
theorem si_jgo {pc : Nat} {off : Int} {L st : List Value} (R : RX Fo h H) : SimS Fo (jgo pc off L st H) (jgo pc off L st h) := si_gd (si_nx R)
theorem si_jbr {b : Bool} {pc : Nat} {off : Int} {L st : List Value} (R : RX Fo h H) : SimS Fo (jbr b pc off L st H) (jbr b pc off L st h) := by
  unfold jbr; split
  · exact si_jgo R
  · exact si_nx R
/-- a field: the same -/
theorem jf_sim (R : RX Fo h H) {v : Value} {T : List Nat} {k : Nat} (hT : ∀ t ∈ T, t < 200) : jf (jc H v) T k = jf (jc h v) T k ∨ jf (jc H v) T k = jno := by
  cases v with
  | ref a =>
    show jf (jm H a) T k = jf (jm h a) T k ∨ jf (jm H a) T k = jno
    cases e : jm H a with
    | none => exact Or.inr rfl
    | some c =>
      obtain ⟨t, n, f⟩ := c
      by_cases ht : t ∈ T
      · rw [R.get e (psT_200 (hT t ht))]; exact Or.inl rfl
      · exact Or.inr (by simp [jf, ht])
  | _ => exact Or.inr rfl
theorem si_pF (R : RX Fo h H) {o : Value} {T : List Nat} {k tc : Nat} {v : Value} {κ κ2 : AH → Rs} (hT : ∀ t ∈ T, t < 200) (g : ∀ h2 H2, RX Fo h2 H2 → SimS Fo (κ H2) (κ2 h2)) : SimS Fo (pF H o T k tc v κ) (pF h o T k tc v κ2) := by
  cases o with
  | ref a =>
    simp only [pF]
    cases e : jm H a with
    | none => trivial
    | some c =>
      obtain ⟨t, n, f⟩ := c
      simp only []
      by_cases hc : t ∈ T ∧ t < 100 ∧ okF tc v = true
      · have p := psT_200 (hT t hc.1)
        rw [R.get e p]
        simp only []
        rw [if_pos hc, if_pos hc]
        exact g _ _ (R.set e p (Or.inl (by have := hc.2.1; omega)))
      · rw [if_neg hc]; trivial
  | _ => trivial
theorem si_aG (R : RX Fo h H) {o : Value} {T : List Nat} {i : Int32} {κ κ2 : Value → Rs} (hT : ∀ t ∈ T, 1000 ≤ t) (g : ∀ v, SimS Fo (κ v) (κ2 v)) : SimS Fo (aG H o T i κ) (aG h o T i κ2) := by
  cases o with
  | ref a =>
    simp only [aG]
    cases e : jm H a with
    | none => trivial
    | some c =>
      obtain ⟨t, n, f⟩ := c
      simp only []
      by_cases hc : t ∈ T ∧ ¬ (i < 0 ∨ n ≤ i.toNatClampNeg)
      · rw [R.get e (psT_1000 (hT t hc.1))]
        simp only []
        rw [if_pos hc, if_pos hc]
        exact g _
      · rw [if_neg hc]; trivial
  | _ => trivial
theorem si_aS (R : RX Fo h H) {o : Value} {T : List Nat} {i : Int32} {v : Value} {κ κ2 : AH → Rs} (hT : ∀ t ∈ T, 1000 ≤ t ∧ t % 10 = 0) (g : ∀ h2 H2, RX Fo h2 H2 → SimS Fo (κ H2) (κ2 h2)) : SimS Fo (aS H o T i v κ) (aS h o T i v κ2) := by
  cases o with
  | ref a =>
    simp only [aS]
    cases e : jm H a with
    | none => trivial
    | some c =>
      obtain ⟨t, n, f⟩ := c
      simp only []
      by_cases hc : t ∈ T ∧ ¬ (i < 0 ∨ n ≤ i.toNatClampNeg)
      · have p := psT_1000 (hT t hc.1).1
        rw [R.get e p]
        simp only []
        rw [if_pos hc, if_pos hc]
        exact g _ _ (R.set e p (Or.inr (hT t hc.1).2))
      · rw [if_neg hc]; trivial
  | _ => trivial
theorem si_aL (R : RX Fo h H) {o : Value} {κ κ2 : Int32 → Rs} (g : ∀ v, SimS Fo (κ v) (κ2 v)) : SimS Fo (aL H o κ) (aL h o κ2) := by
  cases o with
  | ref a =>
    simp only [aL]
    cases e : jm H a with
    | none => trivial
    | some c =>
      obtain ⟨t, n, f⟩ := c
      simp only []
      by_cases hc : 1000 ≤ t
      · rw [R.get e (psT_1000 hc)]
        simp only []
        rw [if_pos hc, if_pos hc]
        exact g _
      · rw [if_neg hc]; trivial
  | _ => trivial
theorem si_cK (R : RX Fo h H) {v : Value} {T : List Nat} (hT : ∀ t ∈ T, t < 200 ∨ 1000 ≤ t) (g : SimS Fo r r2) : SimS Fo (cK H v T r) (cK h v T r2) := by
  cases v with
  | null => exact g
  | ref a =>
    simp only [cK]
    cases e : jm H a with
    | none => trivial
    | some c =>
      obtain ⟨t, n, f⟩ := c
      simp only []
      by_cases hc : t ∈ T
      · rw [R.get e (psT_out (hT t hc))]
        simp only []
        rw [if_pos hc, if_pos hc]
        exact g
      · rw [if_neg hc]; trivial
  | _ => trivial
theorem si_iK (R : RX Fo h H) {v : Value} {T T2 : List Nat} {κ κ2 : Int32 → Rs} (hT : ∀ t ∈ T, t < 200 ∨ 1000 ≤ t) (hT2 : ∀ t ∈ T2, t < 200 ∨ 1000 ≤ t) (g : ∀ v, SimS Fo (κ v) (κ2 v)) : SimS Fo (iK H v T T2 κ) (iK h v T T2 κ2) := by
  cases v with
  | null => exact g _
  | ref a =>
    simp only [iK]
    cases e : jm H a with
    | none => trivial
    | some c =>
      obtain ⟨t, n, f⟩ := c
      simp only []
      by_cases hc : t ∈ T
      · rw [R.get e (psT_out (hT t hc))]
        simp only []
        rw [if_pos hc, if_pos hc]
        exact g _
      · rw [if_neg hc]
        by_cases hc2 : t ∈ T2
        · rw [R.get e (psT_out (hT2 t hc2))]
          simp only []
          rw [if_neg hc, if_pos hc2, if_pos hc2]
          exact g _
        · rw [if_neg hc2]; trivial
  | _ => trivial
theorem si_ok (R : RX Fo h H) {o v : Value} (e : okA H o v = true) : okA h o v = true := by
  cases v with
  | null => rfl
  | ref b =>
    cases o with
    | ref a =>
      simp only [okA, jc] at e ⊢
      cases e1 : jm H a with
      | none => rw [e1] at e; cases e
      | some c1 =>
        cases e2 : jm H b with
        | none => rw [e1, e2] at e; cases e
        | some c2 =>
          obtain ⟨t, n, f⟩ := c1
          obtain ⟨t2, n2, f2⟩ := c2
          rw [e1, e2] at e
          simp only [Bool.or_eq_true, Bool.and_eq_true, Nat.beq_eq] at e
          have p1 : psT t = false := psT_1000 (by rcases e with (⟨e, -⟩ | ⟨e, -⟩) | ⟨e, -⟩ <;> omega)
          have l2 : t2 < 1000 := by
            rcases e with (⟨-, e⟩ | ⟨-, e⟩) | ⟨-, e⟩
            · exact Nat.le_of_ble_eq_true e
            · omega
            · omega
          rw [R.get e1 p1]
          obtain ⟨c2, m2, l3, k3⟩ := R.any e2 l2
          rw [m2]
          obtain ⟨t3, n3, f3⟩ := c2
          simp only [Bool.or_eq_true, Bool.and_eq_true, Nat.beq_eq]
          rcases e with (⟨e, -⟩ | ⟨e, e2⟩) | ⟨e, e2⟩
          · exact Or.inl (Or.inl ⟨e, Nat.ble_eq_true_of_le l3⟩)
          · have := k3 (psT_200 (by omega))
            cases this
            exact Or.inl (Or.inr ⟨e, e2⟩)
          · have := k3 (psT_200 (by omega))
            cases this
            exact Or.inr ⟨e, e2⟩
    | _ => simp [okA, jc] at e
  | _ => simp [okA] at e
theorem si_aT (R : RX Fo h H) {q : Nat} (g : SimS Fo r r2) : SimS Fo (aT H q r) (aT h q r2) := by
  unfold aT
  cases e : jm H q with
  | none => trivial
  | some c =>
    obtain ⟨t, n, f⟩ := c
    simp only []
    by_cases hc : t < 100
    · rw [R.get e (psT_200 (by show t < 200; omega))]
      simp only []
      rw [if_pos hc, if_pos hc]
      exact g
    · rw [if_neg hc]; trivial
theorem GdH_tags {y : Nat} : ∀ {l : List (Nat × Nat × Nat × List Nat)} {m : List (Nat × Nat × Nat × Nat)}, GdH y l m → ∀ x ∈ l, ∀ t ∈ x.2.2.2, t < 100
  | [], _, _, x, hx => by cases hx
  | z :: l, [], h, _, _ => by cases h
  | z :: l, w :: m, h, x, hx => by
    obtain ⟨-, h2, h3⟩ := h
    rcases List.mem_cons.mp hx with rfl | hx
    · intro t ht
      rcases h2 with h2 | ⟨-, nm, -, h2⟩
      · rw [h2] at ht; cases ht
      · exact (h2 t ht).1
    · exact GdH_tags h3 x hx
theorem si_throw (R : RX Fo h H) {y pc : Nat} {L : List Value} {q : Nat} : SimS Fo (jthrow y pc L H q) (jthrow y pc L h q) := by
  unfold jthrow
  cases hf : (jtH y).find? (fun x => Nat.ble x.1 pc && Nat.blt pc x.2.1) with
  | none => exact si_out R
  | some x =>
    simp only []
    cases e : jm H q with
    | none => trivial
    | some c =>
      obtain ⟨t, n, f⟩ := c
      simp only []
      by_cases hc : t ∈ x.2.2.2
      · have := GdH_tags (gd_H y) x (List.mem_of_find?_eq_some hf) t hc
        rw [R.get e (psT_200 (by show t < 200; omega))]
        simp only []
        rw [if_pos hc, if_pos hc]
        exact si_nx R
      · rw [if_neg hc]; trivial
theorem si_back {y pc q : Nat} {L rest : List Value} {rc : Nat} {z z2 : Rz} (g : SimR Fo z z2) : SimS Fo (jback y pc q L rest rc z) (jback y pc q L rest rc z2) := by
  unfold jback
  cases hz : z with
  | none => trivial
  | some w =>
    obtain ⟨o, H2⟩ := w
    obtain ⟨h2, e2, R2⟩ := g o H2 hz
    rw [e2]
    cases o with
    | inl v => exact si_gd (si_nx R2)
    | inr e => exact si_throw R2
/-- what is owed of a call -/
def SimC (Fo : Nat → Option Cl) (cH c : Cll) : Prop := (∀ y as h H, RX Fo h H → SimR Fo (cH y as H) (c y as h)) ∧ ∀ as H, cH 0 as H = none
theorem jtV_ps {v t : Nat} (p : psT t = true) : jtV v t = 0 := by
  unfold jtV
  cases e : (jtVr v).find? (fun q => Nat.beq q.1 t) with
  | none => rfl
  | some q =>
    have h1 := gd_jtVr v q (List.mem_of_find?_eq_some e)
    have h2 := List.find?_some e
    simp only [Nat.beq_eq] at h2
    rw [psT_200 (by omega)] at p
    cases p
theorem si_call {cH c : Cll} (C : SimC Fo cH c) (R : RX Fo h H) {y pc q : Nat} {L st : List Value} {w : Nat × Nat × Nat × Nat} {ok : Bool} : SimS Fo (jcall cH y pc q L st H w ok) (jcall c y pc q L st h w ok) := by
  unfold jcall
  refine si_gd ?_
  generalize (st.take (jargs w)).reverse = as
  unfold jtgt
  cases hk : (Nat.beq w.1 2 || Nat.beq w.1 6) with
  | false => exact si_back (C.1 _ _ _ _ R)
  | true =>
    simp only [cond_true]
    cases as with
    | nil => trivial
    | cons v r =>
      cases v with
      | ref a =>
        simp only []
        cases e : jm H a with
        | none => trivial
        | some c1 =>
          obtain ⟨t, n, f⟩ := c1
          simp only []
          cases p : psT t with
          | true =>
            rw [jtV_ps p, C.2]
            trivial
          | false =>
            rw [R.get e p]
            exact si_back (C.1 _ _ _ _ R)
      | _ => trivial
theorem si_new (R : RX Fo h H) {y pc : Nat} {L st : List Value} {w : Nat × Nat × List Value} (hw : w.1 < 200) : SimS Fo (jnew y pc L st H w) (jnew y pc L st h w) := by
  unfold jnew
  have hn : h.1 = H.1 := R.hn
  refine si_ite (fun _ => ?_) fun _ => si_ite (fun _ => trivial) fun _ => ?_
  · cases st with
    | nil => rw [hn]; exact si_throw (R.push (psT_200 hw))
    | cons _ _ => trivial
  · rw [hn]; exact si_nx (R.push (psT_200 hw))
theorem tgF {k : Nat} : ∀ t ∈ (jtF k).2.1, t < 200 := by
  rcases gd_jtF k with e | ⟨_, _, _, _, -, -, e, -⟩
  · rw [e]; intro t ht; cases ht
  · exact fun t ht => (e t ht).2
theorem tgK {k : Nat} : (∀ t ∈ (jtK k).1, t < 200 ∨ 1000 ≤ t) ∧ ∀ t ∈ (jtK k).2, t < 200 ∨ 1000 ≤ t := by
  rcases gd_jtK k with ⟨e1, e2⟩ | ⟨_, -, e1, e2⟩
  · rw [e1, e2]; exact ⟨fun t ht => (by cases ht), fun t ht => (by cases ht)⟩
  · rw [e2]
    refine ⟨fun t ht => ?_, fun t ht => by cases ht⟩
    rcases e1 t ht with ⟨e, -⟩ | ⟨e, -⟩
    · exact Or.inl e
    · exact Or.inr e
theorem tgN {k : Nat} : (jtN k).1 < 200 := by
  rcases gd_jtN k with e | ⟨-, -, -, ⟨e, -⟩, -⟩ <;> omega
theorem si_fI (R : RX Fo h H) {o : Value} {k : Nat} {κ κ2 : Int32 → Rs} (g : ∀ x, SimS Fo (κ x) (κ2 x)) : SimS Fo (rI (jf (jc H o) (jtF k).2.1 (jtF k).2.2.1) κ) (rI (jf (jc h o) (jtF k).2.1 (jtF k).2.2.1) κ2) := by
  rcases jf_sim R (v := o) (T := (jtF k).2.1) (k := (jtF k).2.2.1) tgF with e | e
  · rw [e]; exact si_rI g
  · rw [e]; trivial
theorem si_fJ (R : RX Fo h H) {o : Value} {k : Nat} {κ κ2 : Int64 → Rs} (g : ∀ x, SimS Fo (κ x) (κ2 x)) : SimS Fo (rJ (jf (jc H o) (jtF k).2.1 (jtF k).2.2.1) κ) (rJ (jf (jc h o) (jtF k).2.1 (jtF k).2.2.1) κ2) := by
  rcases jf_sim R (v := o) (T := (jtF k).2.1) (k := (jtF k).2.2.1) tgF with e | e
  · rw [e]; exact si_rJ g
  · rw [e]; trivial
theorem si_fR (R : RX Fo h H) {o : Value} {k : Nat} {κ κ2 : Value → Rs} (g : ∀ x, SimS Fo (κ x) (κ2 x)) : SimS Fo (rR (jf (jc H o) (jtF k).2.1 (jtF k).2.2.1) κ) (rR (jf (jc h o) (jtF k).2.1 (jtF k).2.2.1) κ2) := by
  rcases jf_sim R (v := o) (T := (jtF k).2.1) (k := (jtF k).2.2.1) tgF with e | e
  · rw [e]; exact si_rR g
  · rw [e]; trivial
theorem tl1 : ∀ t ∈ [1000, 1001], 1000 ≤ t := by decide
theorem tl2 : ∀ t ∈ [1010, 1011, 1020], 1000 ≤ t := by decide
theorem tl3 : ∀ t ∈ [1030], 1000 ≤ t := by decide
theorem tl4 : ∀ t ∈ [1040, 1041, 1050, 1060, 1071], 1000 ≤ t := by decide
theorem tl5 : ∀ t ∈ [1000], 1000 ≤ t ∧ t % 10 = 0 := by decide
theorem tl3a : ∀ t ∈ [1030], 1000 ≤ t ∧ t % 10 = 0 := by decide
theorem tl6 : ∀ t ∈ [1010], 1000 ≤ t ∧ t % 10 = 0 := by decide
theorem tl7 : ∀ t ∈ [1020], 1000 ≤ t ∧ t % 10 = 0 := by decide
theorem tl8 : ∀ t ∈ [1040, 1050, 1060], 1000 ≤ t ∧ t % 10 = 0 := by decide
theorem si_bast (R : RX Fo h H) {o : Value} {i x : Int32} {κ κ2 : AH → Rs} (g : ∀ h2 H2, RX Fo h2 H2 → SimS Fo (κ H2) (κ2 h2)) :
    SimS Fo (match jc H o with
      | some (t, _) => bif Nat.beq t 1010 then aS H o [1010] i (.int x.toInt8.toInt32) κ else gd (x == 0 || x == 1) (aS H o [1020] i (.int x) κ)
      | none => none) (match jc h o with
      | some (t, _) => bif Nat.beq t 1010 then aS h o [1010] i (.int x.toInt8.toInt32) κ2 else gd (x == 0 || x == 1) (aS h o [1020] i (.int x) κ2)
      | none => none) := by
  cases o with
  | ref a =>
    simp only [jc]
    cases e : jm H a with
    | none => trivial
    | some c =>
      obtain ⟨t, n, f⟩ := c
      simp only []
      cases h1 : Nat.beq t 1010 with
      | true =>
        have e1 : t = 1010 := Nat.eq_of_beq_eq_true h1
        subst e1
        rw [R.get e rfl]
        simp only [show Nat.beq 1010 1010 = true from rfl, cond_true]
        exact si_aS R tl6 g
      | false =>
        by_cases h2 : t = 1020
        · subst h2
          rw [R.get e rfl]
          simp only [show Nat.beq 1020 1010 = false from rfl, cond_false]
          exact si_gd (si_aS R tl7 g)
        · have : aS H (.ref a) [1020] i (.int x) κ = none := by
            simp only [aS, e]
            rw [if_neg (by simp [h2])]
          simp only [cond_false, this]
          cases (x == 0 || x == 1) <;> trivial
  | _ => trivial
theorem si_gdo (R : RX Fo h H) {o v : Value} (g : SimS Fo r r2) : SimS Fo (gd (okA H o v) r) (gd (okA h o v) r2) := by
  cases e : okA H o v with
  | false => trivial
  | true => rw [si_ok R e]; exact g
theorem tgA {k : Nat} : psT (jtA k) = false := by
  rcases gd_jtA k with e | ⟨-, -, e, -⟩
  · rw [e]; rfl
  · rcases e with e | e | e <;> rw [e] <;> rfl
theorem si_exi {cH c : Cll} (C : SimC Fo cH c) (R : RX Fo h H) {y pc : Nat} {L st : List Value} {len : Nat} {i : Instr} : SimS Fo (exi cH y pc L st H len i) (exi c y pc L st h len i) := by
  have hn : h.1 = H.1 := R.hn
  have he : je h = je H := R.e
  cases i
  all_goals (first | trivial | skip)
  all_goals simp only [exi, hn, he]
  all_goals (repeat' (first
    | exact si_nx R
    | exact si_out R
    | exact si_jbr R
    | exact si_jgo R
    | exact si_call C R
    | exact si_nx (R.push rfl)
    | exact si_nx (R.push tgA)
    | refine si_gdo R ?_
    | exact si_new R tgN
    | trivial
    | refine si_gd ?_
    | refine si_sI fun _ _ => ?_
    | refine si_sJ fun _ _ => ?_
    | refine si_sR fun _ _ => ?_
    | refine si_sA fun _ _ => ?_
    | refine si_fI R fun _ => ?_
    | refine si_fJ R fun _ => ?_
    | refine si_fR R fun _ => ?_
    | refine si_rI fun _ => ?_
    | refine si_rJ fun _ => ?_
    | refine si_rR fun _ => ?_
    | refine si_bif (fun _ => ?_) fun _ => ?_
    | refine si_ite (fun _ => ?_) fun _ => ?_
    | refine si_pF R tgF fun _ _ R => ?_
    | refine si_aG R tl1 fun _ => ?_
    | refine si_aG R tl2 fun _ => ?_
    | refine si_aG R tl3 fun _ => ?_
    | refine si_aG R tl4 fun _ => ?_
    | refine si_aS R tl5 fun _ _ R => ?_
    | refine si_aS R tl3a fun _ _ R => ?_
    | refine si_aS R tl8 fun _ _ R => ?_
    | exact si_aT R (si_throw R)
    | refine si_bast R fun _ _ R => ?_
    | refine si_aL R fun _ => ?_
    | refine si_cK R tgK.1 ?_
    | refine si_iK R tgK.1 tgK.2 fun _ => ?_
    | split))
end
