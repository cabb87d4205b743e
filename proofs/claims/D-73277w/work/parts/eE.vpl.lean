/-! violations: by rows and by sorts the same, in order by rank; without program -/
section
variable {S : Int → Int} {late : Bool}
/-- what is violated: sort, number, row -/
def VoP (S : Int → Int) (late : Bool) (x : Vi) : Prop := (0 ≤ x.2.2 ∧ x.2.2 < 99 ∧ S (150 + x.2.2) = 1) ∧
  ((x.1 = 1 ∧ 0 ≤ x.2.1 ∧ x.2.1 < S (4 + S (249 + x.2.2)) ∧ ndP S x.2.2 x.2.1 = true) ∨ (x.1 = 2 ∧ 0 ≤ x.2.1 ∧ x.2.1 < S 1 ∧ kyP S x.2.2 x.2.1 = true) ∨ (x.1 = 3 ∧ 0 ≤ x.2.1 ∧ x.2.1 < S 2 ∧ rfQ S late x.2.2 x.2.1 = true) ∨ (x.1 = 4 ∧ 0 ≤ x.2.1 ∧ x.2.1 < S 3 ∧ ckP S late x.2.2 x.2.1 = true))
theorem vi_ext {x : Vi} {a b c : Int} (h1 : x.1 = a) (h2 : x.2.1 = b) (h3 : x.2.2 = c) : x = (a, b, c) := by
  obtain ⟨p, q, r⟩ := x
  simp only at h1 h2 h3
  rw [h1, h2, h3]
theorem mem_rwF {so r : Int} {P : Int → Bool} {x : Vi} : ∀ (n : Nat) (k : Int), x ∈ rwF so r P n k ↔ x.1 = so ∧ x.2.2 = r ∧ k ≤ x.2.1 ∧ x.2.1 < k + n ∧ P x.2.1 = true
  | 0, k => by simp only [rwF, List.not_mem_nil, false_iff]; omega
  | n + 1, k => by
    have ih := mem_rwF (so := so) (r := r) (P := P) (x := x) n (k + 1)
    simp only [rwF]
    by_cases h : P k = true
    · rw [if_pos h, List.mem_cons, ih]
      constructor
      · rintro (rfl | ⟨a, b, c, d, e⟩)
        · exact ⟨rfl, rfl, Int.le_refl _, by show k < _; omega, h⟩
        · exact ⟨a, b, by omega, by omega, e⟩
      · rintro ⟨a, b, c, d, e⟩
        by_cases hk : x.2.1 = k
        · exact Or.inl (vi_ext a hk b)
        · exact Or.inr ⟨a, b, by omega, by omega, e⟩
    · rw [if_neg h, ih]
      constructor
      · rintro ⟨a, b, c, d, e⟩; exact ⟨a, b, by omega, by omega, e⟩
      · rintro ⟨a, b, c, d, e⟩
        have : x.2.1 ≠ k := by rintro hk; rw [hk] at e; exact h e
        exact ⟨a, b, by omega, by omega, e⟩
theorem mem_rowsV {so n : Int} {F : Int → Bool} {x : Vi} : ∀ (j : Nat) (r : Int), x ∈ rowsV so n F j r ↔ x.1 = so ∧ x.2.1 = n ∧ r ≤ x.2.2 ∧ x.2.2 < r + j ∧ F x.2.2 = true
  | 0, k => by simp only [rowsV, List.not_mem_nil, false_iff]; omega
  | j + 1, r => by
    have ih := mem_rowsV (so := so) (n := n) (F := F) (x := x) j (r + 1)
    simp only [rowsV]
    by_cases h : F r = true
    · rw [if_pos h, List.mem_cons, ih]
      constructor
      · rintro (rfl | ⟨a, b, c, d, e⟩)
        · exact ⟨rfl, rfl, Int.le_refl _, by show r < _; omega, h⟩
        · exact ⟨a, b, by omega, by omega, e⟩
      · rintro ⟨a, b, c, d, e⟩
        by_cases hk : x.2.2 = r
        · exact Or.inl (vi_ext a b hk)
        · exact Or.inr ⟨a, b, by omega, by omega, e⟩
    · rw [if_neg h, ih]
      constructor
      · rintro ⟨a, b, c, d, e⟩; exact ⟨a, b, by omega, by omega, e⟩
      · rintro ⟨a, b, c, d, e⟩
        have : x.2.2 ≠ r := by rintro hk; rw [hk] at e; exact h e
        exact ⟨a, b, by omega, by omega, e⟩
theorem mem_rowV (W : StW S) {r : Int} (r0 : 0 ≤ r) (r1 : r < 99) (r2 : S (150 + r) = 1) {x : Vi} : x ∈ rowV S late r ↔ x.2.2 = r ∧ VoP S late x := by
  have N0 := W.n0
  have TA := W.ta r0 r1
  have C1 := W.co TA.1 TA.2
  unfold rowV VoP
  simp only [List.mem_append, mem_rwF, Int.zero_add]
  rw [Int.toNat_of_nonneg C1.1, Int.toNat_of_nonneg N0.2.1.1, Int.toNat_of_nonneg N0.2.2.1.1, Int.toNat_of_nonneg N0.2.2.2.1]
  constructor
  · rintro (⟨a, b, c, d, e⟩ | ⟨a, b, c, d, e⟩ | ⟨a, b, c, d, e⟩ | ⟨a, b, c, d, e⟩)
    · subst b; exact ⟨rfl, ⟨r0, r1, r2⟩, Or.inl ⟨a, c, d, e⟩⟩
    · subst b; exact ⟨rfl, ⟨r0, r1, r2⟩, Or.inr (Or.inl ⟨a, c, d, e⟩)⟩
    · subst b; exact ⟨rfl, ⟨r0, r1, r2⟩, Or.inr (Or.inr (Or.inl ⟨a, c, d, e⟩))⟩
    · subst b; exact ⟨rfl, ⟨r0, r1, r2⟩, Or.inr (Or.inr (Or.inr ⟨a, c, d, e⟩))⟩
  · rintro ⟨b, -, (⟨a, c, d, e⟩ | ⟨a, c, d, e⟩ | ⟨a, c, d, e⟩ | ⟨a, c, d, e⟩)⟩
    · subst b; exact Or.inl ⟨a, rfl, c, d, e⟩
    · subst b; exact Or.inr (Or.inl ⟨a, rfl, c, d, e⟩)
    · subst b; exact Or.inr (Or.inr (Or.inl ⟨a, rfl, c, d, e⟩))
    · subst b; exact Or.inr (Or.inr (Or.inr ⟨a, rfl, c, d, e⟩))
theorem mem_lstV (W : StW S) {x : Vi} : ∀ (s : List Int), (∀ r ∈ s, 0 ≤ r ∧ r < 99 ∧ S (150 + r) = 1) → (x ∈ lstV S late s ↔ x.2.2 ∈ s ∧ VoP S late x)
  | [], _ => by simp [lstV]
  | y :: s, h => by
    have ih := mem_lstV W (x := x) s fun r hr => h r (List.mem_cons_of_mem _ hr)
    obtain ⟨y0, y1, y2⟩ := h y List.mem_cons_self
    simp only [lstV, List.mem_append, ih, mem_rowV W y0 y1 y2, List.mem_cons]
    constructor
    · rintro (⟨a, b⟩ | ⟨a, b⟩)
      · exact ⟨Or.inl a, b⟩
      · exact ⟨Or.inr a, b⟩
    · rintro ⟨a | a, b⟩
      · exact Or.inl ⟨a, b⟩
      · exact Or.inr ⟨a, b⟩
theorem mem_lst (W : StW S) {x : Vi} : x ∈ lstV S late (alv S 150 99 0) ↔ VoP S late x := by
  rw [mem_lstV W _ (fun r hr => by have := (alv_mem 99 0 r).mp hr; omega), alv_mem]
  constructor
  · exact fun h => h.2
  · exact fun h => ⟨by have := h.1; omega, h⟩
theorem rowOf_t {r t : Int} : rowOf S r t = true ↔ S (150 + r) = 1 ∧ S (249 + r) = t := by
  unfold rowOf
  rw [Bool.and_eq_true, decide_eq_true_eq, decide_eq_true_eq]
theorem mem_ndC {t : Int} {x : Vi} : ∀ (j : Nat) (c : Int), x ∈ ndC S t j c ↔ x.1 = 1 ∧ c ≤ x.2.1 ∧ x.2.1 < c + j ∧ neededS S t x.2.1 = true ∧ (0 ≤ x.2.2 ∧ x.2.2 < 99) ∧ (S (150 + x.2.2) = 1 ∧ S (249 + x.2.2) = t) ∧ cellS S x.2.2 x.2.1 < 0
  | 0, c => by simp only [ndC, List.not_mem_nil, false_iff]; omega
  | j + 1, c => by
    have ih := mem_ndC (t := t) (x := x) j (c + 1)
    simp only [ndC, List.mem_append, ih]
    by_cases h : neededS S t c = true
    · rw [if_pos h, mem_rowsV, Bool.and_eq_true, rowOf_t, decide_eq_true_eq]
      constructor
      · rintro (⟨a, b, c1, d, e⟩ | ⟨a, b, c1, d⟩)
        · rw [b]
          exact ⟨a, Int.le_refl _, by omega, h, ⟨c1, by omega⟩, e.1, e.2⟩
        · exact ⟨a, by omega, by omega, d⟩
      · rintro ⟨a, b, c1, d, e, f, g⟩
        by_cases hk : x.2.1 = c
        · rw [hk] at g
          exact Or.inl ⟨a, hk, e.1, by omega, f, g⟩
        · exact Or.inr ⟨a, by omega, by omega, d, e, f, g⟩
    · rw [if_neg h]
      constructor
      · rintro (z | ⟨a, b, c1, d⟩)
        · cases z
        · exact ⟨a, by omega, by omega, d⟩
      · rintro ⟨a, b, c1, d, e⟩
        have : x.2.1 ≠ c := by rintro hk; rw [hk] at d; exact h d
        exact Or.inr ⟨a, by omega, by omega, d, e⟩
theorem mem_ndT {x : Vi} : ∀ (j : Nat) (t : Int), x ∈ ndT S j t ↔ ∃ u, t ≤ u ∧ u < t + j ∧ x ∈ ndC S u (S (4 + u)).toNat 0
  | 0, t => by
    simp only [ndT, List.not_mem_nil, false_iff]
    rintro ⟨u, a, b, -⟩; omega
  | j + 1, t => by
    have ih := mem_ndT (x := x) j (t + 1)
    simp only [ndT, List.mem_append, ih]
    constructor
    · rintro (h | ⟨u, a, b, c⟩)
      · exact ⟨t, Int.le_refl _, by omega, h⟩
      · exact ⟨u, by omega, by omega, c⟩
    · rintro ⟨u, a, b, c⟩
      by_cases hu : u = t
      · exact Or.inl (hu ▸ c)
      · exact Or.inr ⟨u, by omega, by omega, c⟩
theorem mem_keysV {x : Vi} : ∀ (j : Nat) (k : Int), x ∈ keysV S j k ↔ x.1 = 2 ∧ k ≤ x.2.1 ∧ x.2.1 < k + j ∧ (0 ≤ x.2.2 ∧ x.2.2 < 99) ∧ S (150 + x.2.2) = 1 ∧ kyP S x.2.2 x.2.1 = true
  | 0, c => by simp only [keysV, List.not_mem_nil, false_iff]; omega
  | j + 1, k => by
    have ih := mem_keysV (x := x) j (k + 1)
    simp only [keysV, List.mem_append, ih, mem_rowsV, Bool.and_eq_true, rowOf_t]
    unfold kyP
    simp only [Bool.and_eq_true, decide_eq_true_eq]
    constructor
    · rintro (⟨a, b, c1, d, e⟩ | ⟨a, b, c1, d⟩)
      · rw [b]
        exact ⟨a, Int.le_refl _, by omega, ⟨c1, by omega⟩, e.1.1, e.1.2, e.2⟩
      · exact ⟨a, by omega, by omega, d⟩
    · rintro ⟨a, b, c1, d, e, f, g⟩
      by_cases hk : x.2.1 = k
      · rw [hk] at f g
        exact Or.inl ⟨a, hk, d.1, by omega, ⟨e, f⟩, g⟩
      · exact Or.inr ⟨a, by omega, by omega, d, e, f, g⟩
theorem late_if {p : Prop} [Decidable p] : (late || !decide p) = true ↔ ¬ (late = false ∧ p) := by
  cases late <;> simp
theorem mem_refsV {x : Vi} : ∀ (j : Nat) (k : Int), x ∈ refsV S late j k ↔ x.1 = 3 ∧ k ≤ x.2.1 ∧ x.2.1 < k + j ∧ (0 ≤ x.2.2 ∧ x.2.2 < 99) ∧ S (150 + x.2.2) = 1 ∧ rfQ S late x.2.2 x.2.1 = true
  | 0, c => by simp only [refsV, List.not_mem_nil, false_iff]; omega
  | j + 1, k => by
    have ih := mem_refsV (x := x) j (k + 1)
    simp only [refsV, List.mem_append, ih]
    unfold rfQ
    simp only [Bool.and_eq_true, decide_eq_true_eq, late_if]
    by_cases hl : late = false ∧ S (106 + k) = 1
    · rw [if_pos hl]
      constructor
      · rintro (z | ⟨a, b, c1, d⟩)
        · cases z
        · exact ⟨a, by omega, by omega, d⟩
      · rintro ⟨a, b, c1, d, e, f⟩
        have : x.2.1 ≠ k := by rintro hk; rw [hk] at f; exact f.1 hl
        exact Or.inr ⟨a, by omega, by omega, d, e, f⟩
    · rw [if_neg hl, mem_rowsV, Bool.and_eq_true, rowOf_t]
      constructor
      · rintro (⟨a, b, c1, d, e⟩ | ⟨a, b, c1, d⟩)
        · rw [b]
          exact ⟨a, Int.le_refl _, by omega, ⟨c1, by omega⟩, e.1.1, hl, e.1.2, e.2⟩
        · exact ⟨a, by omega, by omega, d⟩
      · rintro ⟨a, b, c1, d, e, f, g, i⟩
        by_cases hk : x.2.1 = k
        · rw [hk] at g i
          exact Or.inl ⟨a, hk, d.1, by omega, ⟨e, g⟩, i⟩
        · exact Or.inr ⟨a, by omega, by omega, d, e, f, g, i⟩
theorem mem_chksV {x : Vi} : ∀ (j : Nat) (k : Int), x ∈ chksV S late j k ↔ x.1 = 4 ∧ k ≤ x.2.1 ∧ x.2.1 < k + j ∧ (0 ≤ x.2.2 ∧ x.2.2 < 99) ∧ S (150 + x.2.2) = 1 ∧ ckP S late x.2.2 x.2.1 = true
  | 0, c => by simp only [chksV, List.not_mem_nil, false_iff]; omega
  | j + 1, k => by
    have ih := mem_chksV (x := x) j (k + 1)
    simp only [chksV, List.mem_append, ih]
    unfold ckP
    simp only [Bool.and_eq_true, decide_eq_true_eq, late_if]
    by_cases hl : late = false ∧ S (142 + k) = 1
    · rw [if_pos hl]
      constructor
      · rintro (z | ⟨a, b, c1, d⟩)
        · cases z
        · exact ⟨a, by omega, by omega, d⟩
      · rintro ⟨a, b, c1, d, e, f⟩
        have : x.2.1 ≠ k := by rintro hk; rw [hk] at f; exact f.1 hl
        exact Or.inr ⟨a, by omega, by omega, d, e, f⟩
    · rw [if_neg hl, mem_rowsV, Bool.and_eq_true, rowOf_t]
      constructor
      · rintro (⟨a, b, c1, d, e⟩ | ⟨a, b, c1, d⟩)
        · rw [b]
          exact ⟨a, Int.le_refl _, by omega, ⟨c1, by omega⟩, e.1.1, hl, e.1.2, e.2⟩
        · exact ⟨a, by omega, by omega, d⟩
      · rintro ⟨a, b, c1, d, e, f, g, i⟩
        by_cases hk : x.2.1 = k
        · rw [hk] at g i
          exact Or.inl ⟨a, hk, d.1, by omega, ⟨e, g⟩, i⟩
        · exact Or.inr ⟨a, by omega, by omega, d, e, f, g, i⟩
theorem mem_viol (W : StW S) {x : Vi} : x ∈ violS S late ↔ VoP S late x := by
  have N0 := W.n0
  unfold violS VoP
  simp only [List.mem_append, mem_ndT, mem_ndC, mem_keysV, mem_refsV, mem_chksV, Int.zero_add]
  rw [Int.toNat_of_nonneg N0.1.1, Int.toNat_of_nonneg N0.2.1.1, Int.toNat_of_nonneg N0.2.2.1.1, Int.toNat_of_nonneg N0.2.2.2.1]
  constructor
  · rintro (⟨u, u0, u1, a, b, c, d, e, f, g⟩ | ⟨a, b, c, d, e, f⟩ | ⟨a, b, c, d, e, f⟩ | ⟨a, b, c, d, e, f⟩)
    · have C1 := W.co u0 (by omega)
      rw [Int.toNat_of_nonneg C1.1] at c
      refine ⟨⟨e.1, e.2, f.1⟩, Or.inl ⟨a, b, by rw [f.2]; exact c, ?_⟩⟩
      unfold ndP
      rw [f.2, d, Bool.and_true, decide_eq_true_eq]
      have := W.cell e.1 e.2 b (by omega)
      omega
    · exact ⟨⟨d.1, d.2, e⟩, Or.inr (Or.inl ⟨a, b, c, f⟩)⟩
    · exact ⟨⟨d.1, d.2, e⟩, Or.inr (Or.inr (Or.inl ⟨a, b, c, f⟩))⟩
    · exact ⟨⟨d.1, d.2, e⟩, Or.inr (Or.inr (Or.inr ⟨a, b, c, f⟩))⟩
  · rintro ⟨⟨p, q, r⟩, (⟨a, b, c, d⟩ | ⟨a, b, c, d⟩ | ⟨a, b, c, d⟩ | ⟨a, b, c, d⟩)⟩
    · have TA := W.ta p q
      have t1 := ((W.2.1 _ p q).1.2 r).1
      have C1 := W.co TA.1 TA.2
      unfold ndP at d
      rw [Bool.and_eq_true, decide_eq_true_eq] at d
      exact Or.inl ⟨S (249 + x.2.2), TA.1, t1, a, b, by rw [Int.toNat_of_nonneg C1.1]; exact c, d.2, ⟨p, q⟩, ⟨r, rfl⟩, by rw [d.1]; decide⟩
    · exact Or.inr (Or.inl ⟨a, b, c, ⟨p, q⟩, r, d⟩)
    · exact Or.inr (Or.inr (Or.inl ⟨a, b, c, ⟨p, q⟩, r, d⟩))
    · exact Or.inr (Or.inr (Or.inr ⟨a, b, c, ⟨p, q⟩, r, d⟩))
/-! in order -/
def rkV (S : Int → Int) (x : Vi) : Int := rnk x.1 (S (249 + x.2.2)) x.2.1 x.2.2
theorem VoP.rg (W : StW S) {x : Vi} (h : VoP S late x) : (1 ≤ x.1 ∧ x.1 ≤ 4) ∧ (0 ≤ S (249 + x.2.2) ∧ S (249 + x.2.2) < 4) ∧ (0 ≤ x.2.1 ∧ x.2.1 < 8) ∧ (0 ≤ x.2.2 ∧ x.2.2 < 99) := by
  obtain ⟨⟨p, q, r⟩, h⟩ := h
  have N0 := W.n0
  have TA := W.ta p q
  have C1 := W.co TA.1 TA.2
  rcases h with ⟨a, b, c, d⟩ | ⟨a, b, c, d⟩ | ⟨a, b, c, d⟩ | ⟨a, b, c, d⟩ <;> exact ⟨by omega, TA, by omega, p, q⟩
theorem rkV_inj (W : StW S) {x y : Vi} (hx : VoP S late x) (hy : VoP S late y) (h : rkV S x = rkV S y) : x = y := by
  have a := hx.rg W
  have b := hy.rg W
  unfold rkV rnk at h
  have key : x.1 = y.1 ∧ x.2.1 = y.2.1 ∧ x.2.2 = y.2.2 := by
    by_cases c1 : x.1 = 1
    · rw [if_pos c1] at h
      by_cases c2 : y.1 = 1
      · rw [if_pos c2] at h; omega
      · rw [if_neg c2] at h; omega
    · rw [if_neg c1] at h
      by_cases c2 : y.1 = 1
      · rw [if_pos c2] at h; omega
      · rw [if_neg c2] at h; omega
  exact vi_ext key.1 key.2.1 key.2.2
theorem rowsV_pw {so n : Int} {F : Int → Bool} : ∀ (j : Nat) (r : Int), (rowsV so n F j r).Pairwise (fun a b => a.2.2 < b.2.2)
  | 0, _ => List.Pairwise.nil
  | j + 1, r => by
    simp only [rowsV]
    by_cases h : F r = true
    · rw [if_pos h, List.pairwise_cons]
      refine ⟨fun x hx => ?_, rowsV_pw j (r + 1)⟩
      have := (mem_rowsV j (r + 1)).mp hx
      show r < _
      omega
    · rw [if_neg h]; exact rowsV_pw j (r + 1)
/-- by kind, table (if columns), number, row -/
def LexV (S : Int → Int) (a b : Vi) : Prop := a.1 < b.1 ∨ (a.1 = b.1 ∧ ((a.1 = 1 ∧ S (249 + a.2.2) < S (249 + b.2.2)) ∨ ((a.1 = 1 → S (249 + a.2.2) = S (249 + b.2.2)) ∧ (a.2.1 < b.2.1 ∨ (a.2.1 = b.2.1 ∧ a.2.2 < b.2.2)))))
theorem ndC_pw {t : Int} : ∀ (j : Nat) (c : Int), (ndC S t j c).Pairwise (LexV S)
  | 0, _ => List.Pairwise.nil
  | j + 1, c => by
    simp only [ndC]
    rw [List.pairwise_append]
    refine ⟨?_, ndC_pw j (c + 1), fun a ha b hb => ?_⟩
    · by_cases h : neededS S t c = true
      · rw [if_pos h]
        refine List.Pairwise.imp_of_mem (fun {a b} ha hb hab => ?_) (rowsV_pw 99 0)
        rw [mem_rowsV, Bool.and_eq_true, rowOf_t] at ha hb
        exact Or.inr ⟨ha.1.trans hb.1.symm, Or.inr ⟨fun _ => ha.2.2.2.2.1.2.trans hb.2.2.2.2.1.2.symm, Or.inr ⟨ha.2.1.trans hb.2.1.symm, hab⟩⟩⟩
      · rw [if_neg h]; exact List.Pairwise.nil
    · have hb := (mem_ndC j (c + 1)).mp hb
      by_cases h : neededS S t c = true
      · rw [if_pos h, mem_rowsV, Bool.and_eq_true, rowOf_t] at ha
        exact Or.inr ⟨ha.1.trans hb.1.symm, Or.inr ⟨fun _ => ha.2.2.2.2.1.2.trans hb.2.2.2.2.2.1.2.symm, Or.inl (by have := ha.2.1; have := hb.2.1; omega)⟩⟩
      · rw [if_neg h] at ha; cases ha
theorem ndT_pw : ∀ (j : Nat) (t : Int), (ndT S j t).Pairwise (LexV S)
  | 0, _ => List.Pairwise.nil
  | j + 1, t => by
    simp only [ndT]
    rw [List.pairwise_append]
    refine ⟨ndC_pw _ 0, ndT_pw j (t + 1), fun a ha b hb => ?_⟩
    obtain ⟨u, u0, u1, hb⟩ := (mem_ndT j (t + 1)).mp hb
    rw [mem_ndC] at ha hb
    exact Or.inr ⟨ha.1.trans hb.1.symm, Or.inl ⟨ha.1, by have := ha.2.2.2.2.2.1.2; have := hb.2.2.2.2.2.1.2; omega⟩⟩
theorem keysV_pw : ∀ (j : Nat) (k : Int), (keysV S j k).Pairwise (LexV S)
  | 0, _ => List.Pairwise.nil
  | j + 1, k => by
    simp only [keysV]
    rw [List.pairwise_append]
    refine ⟨List.Pairwise.imp_of_mem (fun {a b} ha hb hab => ?_) (rowsV_pw 99 0), keysV_pw j (k + 1), fun a ha b hb => ?_⟩
    · rw [mem_rowsV] at ha hb
      exact Or.inr ⟨ha.1.trans hb.1.symm, Or.inr ⟨fun z => (by rw [ha.1] at z; cases z), Or.inr ⟨ha.2.1.trans hb.2.1.symm, hab⟩⟩⟩
    · rw [mem_rowsV] at ha
      rw [mem_keysV] at hb
      exact Or.inr ⟨ha.1.trans hb.1.symm, Or.inr ⟨fun z => (by rw [ha.1] at z; cases z), Or.inl (by have := ha.2.1; have := hb.2.1; omega)⟩⟩
theorem refsV_pw : ∀ (j : Nat) (k : Int), (refsV S late j k).Pairwise (LexV S)
  | 0, _ => List.Pairwise.nil
  | j + 1, k => by
    simp only [refsV]
    rw [List.pairwise_append]
    by_cases hl : late = false ∧ S (106 + k) = 1
    · rw [if_pos hl]
      exact ⟨List.Pairwise.nil, refsV_pw j (k + 1), fun a ha => by cases ha⟩
    · rw [if_neg hl]
      refine ⟨List.Pairwise.imp_of_mem (fun {a b} ha hb hab => ?_) (rowsV_pw 99 0), refsV_pw j (k + 1), fun a ha b hb => ?_⟩
      · rw [mem_rowsV] at ha hb
        exact Or.inr ⟨ha.1.trans hb.1.symm, Or.inr ⟨fun z => (by rw [ha.1] at z; cases z), Or.inr ⟨ha.2.1.trans hb.2.1.symm, hab⟩⟩⟩
      · rw [mem_rowsV] at ha
        rw [mem_refsV] at hb
        exact Or.inr ⟨ha.1.trans hb.1.symm, Or.inr ⟨fun z => (by rw [ha.1] at z; cases z), Or.inl (by have := ha.2.1; have := hb.2.1; omega)⟩⟩
theorem chksV_pw : ∀ (j : Nat) (k : Int), (chksV S late j k).Pairwise (LexV S)
  | 0, _ => List.Pairwise.nil
  | j + 1, k => by
    simp only [chksV]
    rw [List.pairwise_append]
    by_cases hl : late = false ∧ S (142 + k) = 1
    · rw [if_pos hl]
      exact ⟨List.Pairwise.nil, chksV_pw j (k + 1), fun a ha => by cases ha⟩
    · rw [if_neg hl]
      refine ⟨List.Pairwise.imp_of_mem (fun {a b} ha hb hab => ?_) (rowsV_pw 99 0), chksV_pw j (k + 1), fun a ha b hb => ?_⟩
      · rw [mem_rowsV] at ha hb
        exact Or.inr ⟨ha.1.trans hb.1.symm, Or.inr ⟨fun z => (by rw [ha.1] at z; cases z), Or.inr ⟨ha.2.1.trans hb.2.1.symm, hab⟩⟩⟩
      · rw [mem_rowsV] at ha
        rw [mem_chksV] at hb
        exact Or.inr ⟨ha.1.trans hb.1.symm, Or.inr ⟨fun z => (by rw [ha.1] at z; cases z), Or.inl (by have := ha.2.1; have := hb.2.1; omega)⟩⟩
theorem viol_pw (W : StW S) : (violS S late).Pairwise (fun a b => rkV S a < rkV S b) := by
  have lx : (violS S late).Pairwise (LexV S) := by
    unfold violS
    rw [List.pairwise_append, List.pairwise_append, List.pairwise_append]
    refine ⟨ndT_pw _ _, ⟨keysV_pw _ _, ⟨refsV_pw _ _, chksV_pw _ _, fun a ha b hb => ?_⟩, fun a ha b hb => ?_⟩, fun a ha b hb => ?_⟩
    · rw [mem_refsV] at ha
      rw [mem_chksV] at hb
      exact Or.inl (by have := ha.1; have := hb.1; omega)
    · rw [mem_keysV] at ha
      rw [List.mem_append, mem_refsV, mem_chksV] at hb
      exact Or.inl (by have := ha.1; rcases hb with hb | hb <;> have := hb.1 <;> omega)
    · obtain ⟨u, u0, u1, ha⟩ := (mem_ndT _ _).mp ha
      rw [mem_ndC] at ha
      rw [List.mem_append, List.mem_append, mem_keysV, mem_refsV, mem_chksV] at hb
      exact Or.inl (by have := ha.1; rcases hb with hb | hb | hb <;> have := hb.1 <;> omega)
  refine List.Pairwise.imp_of_mem (fun {a b} ha hb hab => ?_) lx
  have ra := ((mem_viol W).mp ha).rg W
  have rb := ((mem_viol W).mp hb).rg W
  unfold rkV rnk
  unfold LexV at hab
  by_cases c1 : a.1 = 1
  · rw [if_pos c1]
    by_cases c2 : b.1 = 1
    · rw [if_pos c2]
      rcases hab with h | ⟨h1, (h | ⟨h2, h3⟩)⟩
      · omega
      · omega
      · have := h2 c1
        omega
    · rw [if_neg c2]; omega
  · rw [if_neg c1]
    by_cases c2 : b.1 = 1
    · rw [if_pos c2]; omega
    · rw [if_neg c2]; omega
theorem rwF_pw {so r : Int} {P : Int → Bool} : ∀ (n : Nat) (k : Int), (rwF so r P n k).Pairwise (fun a b => a ≠ b)
  | 0, _ => List.Pairwise.nil
  | n + 1, k => by
    simp only [rwF]
    by_cases h : P k = true
    · rw [if_pos h, List.pairwise_cons]
      refine ⟨fun x hx => ?_, rwF_pw n (k + 1)⟩
      have := (mem_rwF n (k + 1)).mp hx
      rintro rfl
      have : k + 1 ≤ k := this.2.2.1
      omega
    · rw [if_neg h]; exact rwF_pw n (k + 1)
theorem rowV_nd {r : Int} : (rowV S late r).Nodup := by
  unfold rowV List.Nodup
  rw [List.pairwise_append, List.pairwise_append, List.pairwise_append]
  refine ⟨rwF_pw _ _, ⟨rwF_pw _ _, ⟨rwF_pw _ _, rwF_pw _ _, fun a ha b hb => ?_⟩, fun a ha b hb => ?_⟩, fun a ha b hb => ?_⟩
  · rw [mem_rwF] at ha hb
    rintro rfl
    have := ha.1; have := hb.1; omega
  · rw [List.mem_append, mem_rwF, mem_rwF] at hb
    rw [mem_rwF] at ha
    rintro rfl
    have := ha.1
    rcases hb with hb | hb <;> have := hb.1 <;> omega
  · rw [List.mem_append, List.mem_append, mem_rwF, mem_rwF, mem_rwF] at hb
    rw [mem_rwF] at ha
    rintro rfl
    have := ha.1
    rcases hb with hb | hb | hb <;> have := hb.1 <;> omega
theorem mem_row2 {r : Int} {x : Vi} (h : x ∈ rowV S late r) : x.2.2 = r := by
  unfold rowV at h
  simp only [List.mem_append, mem_rwF] at h
  rcases h with h | h | h | h <;> exact h.2.1
theorem mem_lst2 {x : Vi} : ∀ (s : List Int), x ∈ lstV S late s → x.2.2 ∈ s
  | [], h => by cases h
  | y :: s, h => by
    rw [lstV, List.mem_append] at h
    rcases h with h | h
    · rw [mem_row2 h]; exact List.mem_cons_self
    · exact List.mem_cons_of_mem _ (mem_lst2 s h)
theorem lst_nd : ∀ (s : List Int), s.Nodup → (lstV S late s).Nodup
  | [], _ => List.Pairwise.nil
  | y :: s, h => by
    rw [List.nodup_cons] at h
    unfold List.Nodup
    rw [lstV, List.pairwise_append]
    refine ⟨rowV_nd, lst_nd s h.2, fun a ha b hb => ?_⟩
    rintro rfl
    have := mem_lst2 s hb
    rw [mem_row2 ha] at this
    exact h.1 this
theorem alv_nd {at_ : Int} : ∀ (n : Nat) (k : Int), (alv S at_ n k).Nodup
  | 0, _ => List.Pairwise.nil
  | n + 1, k => by
    simp only [alv]
    by_cases e : S (at_ + k) = 1
    · rw [if_pos e, List.nodup_cons]
      exact ⟨fun h => by have := (alv_mem n (k + 1) k).mp h; omega, alv_nd n (k + 1)⟩
    · rw [if_neg e]; exact alv_nd n (k + 1)
theorem viol_nd (W : StW S) : (violS S late).Nodup := (viol_pw W).imp fun {a b} h => by rintro rfl; exact absurd h (Int.lt_irrefl _)
theorem viol_perm (W : StW S) : (lstV S late (alv S 150 99 0)).Perm (violS S late) := (List.perm_ext_iff_of_nodup (lst_nd _ (alv_nd 99 0)) (viol_nd W)).mpr fun x => by rw [mem_lst W, mem_viol W]
/-- what is in order by rank is that list -/
theorem viol_uniq (W : StW S) {ys : List Vi} (hp : ys.Perm (lstV S late (alv S 150 99 0))) (hs : ys.Pairwise (fun a b => rkV S a ≤ rkV S b)) : ys = violS S late := by
  have p2 := hp.trans (viol_perm W)
  refine List.Perm.eq_of_pairwise (fun a b ha hb h1 h2 => ?_) hs ((viol_pw W).imp fun {a b} h => Int.le_of_lt h) p2
  exact rkV_inj W ((mem_viol W).mp (p2.mem_iff.mp ha)) ((mem_viol W).mp hb) (by omega)
end
