/-! how far off a row is that goes: round by round, or one by one; without program -/
def EdgS (S : Int → Int) (r q : Int) : Prop := ∃ f, 0 ≤ f ∧ f < S 2 ∧ S (88 + f) = 1 ∧ parS S r f = q ∧ 0 ≤ q
def AlS (S : Int → Int) (r : Int) : Prop := 0 ≤ r ∧ r < 99 ∧ S (150 + r) = 1
/-- D tells how far off the rows are from src -/
def BfsW (S : Int → Int) (src : Int → Prop) (D : Int → Int) : Prop := (∀ r, 0 ≤ r → r < 99 → -1 ≤ D r ∧ (S (150 + r) ≠ 1 → D r = -1)) ∧
  (∀ r, AlS S r → src r → D r = 0) ∧ (∀ r, AlS S r → ¬ src r → 0 ≤ D r → ∃ q, EdgS S r q ∧ D q = D r - 1 ∧ 0 ≤ D q) ∧ ∀ r q, AlS S r → EdgS S r q → 0 ≤ D q → 0 ≤ D r ∧ D r ≤ D q + 1
section
variable {S A Go : Int → Int} {src : Int → Prop} {D D1 D2 : Int → Int}
theorem EdgS.al {r q : Int} (h : EdgS S r q) : AlS S q := by
  obtain ⟨f, f0, f1, f2, rfl, h0⟩ := h
  unfold parS at h0 ⊢
  by_cases c : S (249 + r) = S (58 + f)
  · rw [if_pos c] at h0 ⊢
    exact ⟨h0, (tgt_al h0).2, (tgt_al h0).1⟩
  · rw [if_neg c] at h0; omega
theorem bfs_le (h1 : BfsW S src D1) (h2 : BfsW S src D2) : ∀ (n : Nat) (r : Int), AlS S r → 0 ≤ D1 r → D1 r ≤ n → 0 ≤ D2 r ∧ D2 r ≤ D1 r := by
  intro n
  induction n with
  | zero =>
    intro r ha h0 hn
    by_cases hs : src r
    · rw [h2.2.1 r ha hs]; omega
    · obtain ⟨q, -, b, c⟩ := h1.2.2.1 r ha hs h0
      omega
  | succ n ih =>
    intro r ha h0 hn
    by_cases hs : src r
    · rw [h2.2.1 r ha hs]; omega
    · obtain ⟨q, a, b, c⟩ := h1.2.2.1 r ha hs h0
      obtain ⟨d, e⟩ := ih q a.al c (by omega)
      have := h2.2.2.2 r q ha a d
      omega
theorem bfs_un (h1 : BfsW S src D1) (h2 : BfsW S src D2) {r : Int} (r0 : 0 ≤ r) (r1 : r < 99) : D1 r = D2 r := by
  by_cases ha : S (150 + r) = 1
  · have a1 := (h1.1 r r0 r1).1
    have a2 := (h2.1 r r0 r1).1
    by_cases c1 : 0 ≤ D1 r
    · obtain ⟨x, y⟩ := bfs_le h1 h2 (D1 r).toNat r ⟨r0, r1, ha⟩ c1 (by omega)
      obtain ⟨x', y'⟩ := bfs_le h2 h1 (D2 r).toNat r ⟨r0, r1, ha⟩ x (by omega)
      omega
    · by_cases c2 : 0 ≤ D2 r
      · obtain ⟨x', y'⟩ := bfs_le h2 h1 (D2 r).toNat r ⟨r0, r1, ha⟩ c2 (by omega)
        omega
      · omega
  · rw [(h1.1 r r0 r1).2 ha, (h2.1 r r0 r1).2 ha]
/-- after the rounds below n -/
def RndW (S : Int → Int) (src : Int → Prop) (n : Int) (D : Int → Int) : Prop := (∀ r, 0 ≤ r → r < 99 → -1 ≤ D r ∧ D r < n ∧ (S (150 + r) ≠ 1 → D r = -1)) ∧
  (∀ r, AlS S r → src r → D r = 0) ∧ (∀ r, AlS S r → ¬ src r → 0 ≤ D r → ∃ q, EdgS S r q ∧ D q = D r - 1 ∧ 0 ≤ D q) ∧ ∀ r q, AlS S r → EdgS S r q → 0 ≤ D q → D q < n - 1 → 0 ≤ D r ∧ D r ≤ D q + 1
theorem closQ_iff (hA : AhP S A) {n r : Int} (ha : AlS S r) (N0 : 0 ≤ S 2) : anyF (closQ S A Go n r) (S 2).toNat 0 = true ↔ ∃ q, EdgS S r q ∧ 0 ≤ Go q ∧ Go q ≤ n - 1 := by
  have key : ∀ (j : Nat) (k : Int), 0 ≤ k → k + j = S 2 → (anyF (closQ S A Go n r) j k = true ↔ ∃ f, k ≤ f ∧ f < S 2 ∧ S (88 + f) = 1 ∧ 0 ≤ parS S r f ∧ 0 ≤ Go (parS S r f) ∧ Go (parS S r f) ≤ n - 1) := by
    intro j
    induction j with
    | zero => intro k k0 hk; simp only [anyF, Bool.false_eq_true, false_iff]; rintro ⟨f, a, b, -⟩; omega
    | succ j ih =>
      intro k k0 hk
      rw [show anyF (closQ S A Go n r) (j + 1) k = (closQ S A Go n r k || anyF (closQ S A Go n r) j (k + 1)) from rfl, Bool.or_eq_true, ih (k + 1) (by omega) (by omega)]
      have eq := hA r k ha.1 ha.2.1 ha.2.2 k0 (by omega)
      have one : closQ S A Go n r k = true ↔ S (88 + k) = 1 ∧ 0 ≤ parS S r k ∧ 0 ≤ Go (parS S r k) ∧ Go (parS S r k) ≤ n - 1 := by
        unfold closQ isInZ
        rw [← eq]
        simp only [Bool.and_eq_true, decide_eq_true_eq]
        by_cases c : S (58 + k) = S (249 + r)
        · rw [if_pos c]
          constructor
          · rintro ⟨-, a, b, c, d⟩; exact ⟨a, b, c, d⟩
          · rintro ⟨a, b, c', d⟩; exact ⟨c, a, b, c', d⟩
        · rw [if_neg c]
          constructor
          · exact fun z => absurd z.1 c
          · exact fun z => absurd z.2.1 (by decide)
      rw [one]
      constructor
      · rintro (⟨a, b, c, d⟩ | ⟨f, a, b⟩)
        · exact ⟨k, Int.le_refl _, by omega, a, b, c, d⟩
        · exact ⟨f, by omega, b⟩
      · rintro ⟨f, a, b, c⟩
        by_cases hf : f = k
        · subst hf; exact Or.inl c
        · exact Or.inr ⟨f, by omega, b, c⟩
  rw [key _ 0 (Int.le_refl _) (by omega)]
  constructor
  · rintro ⟨f, a, b, c, d, e⟩; exact ⟨_, ⟨f, a, b, c, rfl, d⟩, e⟩
  · rintro ⟨q, ⟨f, a, b, c, rfl, d⟩, e⟩; exact ⟨f, a, b, c, d, e⟩
theorem cloR_at (hA : AhP S A) (N0 : 0 ≤ S 2) {n : Int} (n0 : 1 ≤ n) (hal : ∀ r, 0 ≤ r → r < 99 → S (150 + r) = 0 ∨ S (150 + r) = 1) : ∀ (j : Nat) (r : Int) (x : (Int → Int) × Bool), 0 ≤ r → r + j = 99 → (∀ k, 0 ≤ k → k < 99 → x.1 k = D k ∨ (x.1 k = n ∧ D k < 0)) → (∀ k, r ≤ k → k < 99 → x.1 k = D k) → (∀ k, 0 ≤ k → k < 99 → D k < n) → (x.2 = false → ∀ k, 0 ≤ k → k < 99 → x.1 k = D k) → (∀ k, 0 ≤ k → k < 99 → x.1 k ≠ D k → x.2 = true) →
    (∀ k, 0 ≤ k → k < r → (cloR S A n j r x).1 k = x.1 k) ∧ (∀ k, r ≤ k → k < 99 → (cloR S A n j r x).1 k = @ite Int (S (150 + k) = 1 ∧ D k < 0 ∧ (∃ q, EdgS S k q ∧ 0 ≤ D q ∧ D q ≤ n - 1)) (Classical.propDecidable _) n (D k)) ∧ ((cloR S A n j r x).2 = false → x.2 = false ∧ ∀ k, r ≤ k → k < 99 → (cloR S A n j r x).1 k = D k) := by
  classical
  intro j
  induction j with
  | zero => intro r x r0 hr _ _ _ _ _; exact ⟨fun _ _ _ => rfl, fun k a b => by omega, fun h => ⟨h, fun k a b => by omega⟩⟩
  | succ j ih =>
    intro r x r0 hr h1 h2 h3 h4 h5
    have e : cloR S A n (j + 1) r x = cloR S A n j (r + 1) (if S (150 + r) = 0 ∨ 0 ≤ x.1 r then x else if anyF (closQ S A x.1 n r) (S 2).toNat 0 = true then (fset x.1 r n, true) else x) := rfl
    have xr := h2 r (Int.le_refl _) (by omega)
    -- a neighbour looked at now, or ahead of the round
    have nb : ∀ q, AlS S q → ((0 ≤ x.1 q ∧ x.1 q ≤ n - 1) ↔ (0 ≤ D q ∧ D q ≤ n - 1)) := fun q hq => by
      rcases h1 q hq.1 hq.2.1 with c | ⟨c, c2⟩
      · rw [c]
      · rw [c]; omega
    rw [e]
    by_cases hc : S (150 + r) = 1 ∧ D r < 0 ∧ (∃ q, EdgS S r q ∧ 0 ≤ D q ∧ D q ≤ n - 1)
    · obtain ⟨c1, c2, q, c3, c4⟩ := hc
      have any : anyF (closQ S A x.1 n r) (S 2).toNat 0 = true := (closQ_iff hA ⟨r0, by omega, c1⟩ N0).mpr ⟨q, c3, (nb q c3.al).mpr c4⟩
      rw [if_neg (by rw [c1, xr]; omega), if_pos any]
      obtain ⟨i1, i2, i3⟩ := ih (r + 1) (fset x.1 r n, true) (by omega) (by omega) (fun k k0 k1 => by
          show fset x.1 r n k = D k ∨ (fset x.1 r n k = n ∧ D k < 0)
          by_cases hk : k = r
          · subst hk; exact Or.inr ⟨fset_eq, c2⟩
          · rw [fset_ne hk]; exact h1 k k0 k1) (fun k k0 k1 => by
          show fset x.1 r n k = _
          rw [fset_ne (by omega)]; exact h2 k (by omega) k1) h3 (fun z => by cases z) (fun _ _ _ _ => rfl)
      refine ⟨fun k k0 k1 => ?_, fun k k0 k1 => ?_, fun z => ?_⟩
      · rw [i1 k k0 (by omega)]
        exact fset_ne (by omega)
      · by_cases hk : k = r
        · subst hk
          rw [i1 k r0 (by omega), if_pos ⟨c1, c2, q, c3, c4⟩]
          exact fset_eq
        · exact i2 k (by omega) k1
      · have := (i3 z).1; cases this
    · have st : (if S (150 + r) = 0 ∨ 0 ≤ x.1 r then x else if anyF (closQ S A x.1 n r) (S 2).toNat 0 = true then (fset x.1 r n, true) else x) = x := by
        by_cases a : S (150 + r) = 0 ∨ 0 ≤ x.1 r
        · rw [if_pos a]
        · rw [if_neg a]
          have a1 : S (150 + r) = 1 := by have := hal r r0 (by omega); omega
          rw [if_neg]
          intro any
          obtain ⟨q, c3, c4⟩ := (closQ_iff hA ⟨r0, by omega, a1⟩ N0).mp any
          exact hc ⟨a1, by omega, q, c3, (nb q c3.al).mp c4⟩
      rw [st]
      obtain ⟨i1, i2, i3⟩ := ih (r + 1) x (by omega) (by omega) h1 (fun k k0 k1 => h2 k (by omega) k1) h3 h4 h5
      refine ⟨fun k k0 k1 => i1 k k0 (by omega), fun k k0 k1 => ?_, fun z => ⟨(i3 z).1, fun k k0 k1 => ?_⟩⟩
      · by_cases hk : k = r
        · subst hk
          rw [i1 k r0 (by omega), if_neg hc, xr]
        · exact i2 k (by omega) k1
      · by_cases hk : k = r
        · subst hk; rw [i1 k r0 (by omega), xr]
        · exact (i3 z).2 k (by omega) k1
theorem clos_bfs (W : StW S) (hA : AhP S A) : ∀ (k : Nat) (n : Int) (D : Int → Int), 1 ≤ n → cn D 99 0 < k → RndW S src n D → BfsW S src (closF S A k n D) := by
  classical
  intro k
  induction k with
  | zero => intro n D _ h; omega
  | succ k ih =>
    intro n D n0 hc hR
    have N0 := W.n0.2.2.1.1
    obtain ⟨a1, a2, a3, a4⟩ := hR
    obtain ⟨-, c2, c3⟩ := cloR_at (D := D) hA N0 n0 (fun r r0 r1 => W.al r0 r1) 99 0 (D, false) (Int.le_refl _) (by omega) (fun _ _ _ => Or.inl rfl) (fun _ _ _ => rfl) (fun k k0 k1 => (a1 k k0 k1).2.1) (fun _ _ _ _ => rfl) (fun _ _ _ z => absurd rfl z)
    have cnn := cloR_cn (S := S) (A := A) (n := n) (by omega) 99 0 (D, false) (Int.le_refl _) (by omega)
    have e : closF S A (k + 1) n D = if (cloR S A n 99 0 (D, false)).2 = true then closF S A k (n + 1) (cloR S A n 99 0 (D, false)).1 else (cloR S A n 99 0 (D, false)).1 := rfl
    rw [e]
    generalize cloR S A n 99 0 (D, false) = y at *
    -- the state behind the round
    have hold : ∀ r, 0 ≤ r → r < 99 → 0 ≤ D r → y.1 r = D r := fun r r0 r1 h => by rw [c2 r r0 r1, if_neg (by omega)]
    have R2 : RndW S src (n + 1) y.1 := by
      refine ⟨fun r r0 r1 => ?_, fun r ha hs => ?_, fun r ha hs h0 => ?_, fun r q ha he hq hn => ?_⟩
      · have := a1 r r0 r1
        rw [c2 r r0 r1]
        by_cases c : S (150 + r) = 1 ∧ D r < 0 ∧ (∃ q, EdgS S r q ∧ 0 ≤ D q ∧ D q ≤ n - 1)
        · rw [if_pos c]; exact ⟨by omega, by omega, fun z => absurd c.1 z⟩
        · rw [if_neg c]; exact ⟨this.1, by omega, this.2.2⟩
      · have := a2 r ha hs
        rw [hold r ha.1 ha.2.1 (by omega), this]
      · rw [c2 r ha.1 ha.2.1] at h0 ⊢
        by_cases c : S (150 + r) = 1 ∧ D r < 0 ∧ (∃ q, EdgS S r q ∧ 0 ≤ D q ∧ D q ≤ n - 1)
        · rw [if_pos c] at h0 ⊢
          obtain ⟨x1, x2, q, x3, x4, x5⟩ := c
          have hq := hold q x3.al.1 x3.al.2.1 x4
          refine ⟨q, x3, ?_, by rw [hq]; exact x4⟩
          rw [hq]
          by_cases hlt : D q < n - 1
          · have := a4 r q ha x3 x4 hlt
            omega
          · omega
        · rw [if_neg c] at h0 ⊢
          obtain ⟨q, x1, x2, x3⟩ := a3 r ha hs h0
          have hq := hold q x1.al.1 x1.al.2.1 x3
          exact ⟨q, x1, by rw [hq]; exact x2, by rw [hq]; exact x3⟩
      · have hqD : y.1 q = D q ∧ 0 ≤ D q := by
          have h2 := c2 q he.al.1 he.al.2.1
          by_cases c : S (150 + q) = 1 ∧ D q < 0 ∧ (∃ p, EdgS S q p ∧ 0 ≤ D p ∧ D p ≤ n - 1)
          · rw [if_pos c] at h2; omega
          · rw [if_neg c] at h2; exact ⟨h2, by omega⟩
        have h3 := a1 r ha.1 ha.2.1
        rw [c2 r ha.1 ha.2.1]
        by_cases c : S (150 + r) = 1 ∧ D r < 0 ∧ (∃ q, EdgS S r q ∧ 0 ≤ D q ∧ D q ≤ n - 1)
        · rw [if_pos c]
          refine ⟨by omega, ?_⟩
          by_cases hlt : D q < n - 1
          · have := a4 r q ha he hqD.2 hlt
            omega
          · omega
        · rw [if_neg c]
          by_cases hlt : D q < n - 1
          · have := a4 r q ha he hqD.2 hlt
            omega
          · have : ¬ D r < 0 := fun z => c ⟨ha.2.2, z, q, he, hqD.2, by omega⟩
            omega
    cases hy : y.2 with
    | true =>
      rw [if_pos rfl]
      rw [hy, if_pos rfl] at cnn
      exact ih (n + 1) y.1 (by omega) (by simp only [Bool.false_eq_true, if_false] at cnn; omega) R2
    | false =>
      rw [if_neg (by decide)]
      have same := (c3 hy).2
      obtain ⟨b1, b2, b3, b4⟩ := R2
      refine ⟨fun r r0 r1 => ⟨(b1 r r0 r1).1, (b1 r r0 r1).2.2⟩, b2, b3, fun r q ha he hq => b4 r q ha he hq ?_⟩
      have := a1 q he.al.1 he.al.2.1
      rw [same q he.al.1 he.al.2.1]
      omega
end
