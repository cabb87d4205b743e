/-! sort: two runs become one (from the left), without program -/
/-- the state of a merge: what is laid [B, j), what is left of one run (t, from c1) and of the other (f, from c2) -/
def MI (G : Nat → Option Cl) (rk : Value → Int) (f0 : Nat → Value) (B E : Nat) (f t : Nat → Value) (j c1 n1 c2 n2 : Nat) : Prop :=
  (B ≤ j ∧ j + n1 = c2 ∧ c2 + n2 = E ∧ 1 ≤ n1) ∧
  ((sg f B (j - B) ++ (sg t c1 n1 ++ sg f c2 n2)).Perm (sg f0 B (E - B))) ∧
  (∀ i, i < B ∨ E ≤ i → f i = f0 i) ∧
  SrtA rk f B (j - B) ∧ SrtA rk t c1 n1 ∧ SrtA rk f c2 n2 ∧
  (∀ i k, B ≤ i → i < j → c1 ≤ k → k < c1 + n1 → rk (f i) ≤ rk (t k)) ∧
  (∀ i k, B ≤ i → i < j → c2 ≤ k → k < E → rk (f i) ≤ rk (f k)) ∧
  (∀ k, c2 ≤ k → k < E → rk (f k) < rk (t (c1 + n1 - 1))) ∧
  OkA G rk t c1 n1 ∧ OkA G rk f c2 n2
section
variable {G : Nat → Option Cl} {rk : Value → Int} {f0 f f2 t : Nat → Value} {B E j c1 n1 c2 n2 k : Nat}
/-- some of the first run are laid -/
theorem MI.mvL (h : MI G rk f0 B E f t j c1 n1 c2 n2) (hk : k < n1) (hle : k = 0 ∨ ∀ i, c2 ≤ i → i < E → rk (t (c1 + k - 1)) ≤ rk (f i)) (g1 : ∀ i, j ≤ i → i < j + k → f2 i = t (c1 + (i - j))) (g2 : ∀ i, i < j ∨ j + k ≤ i → f2 i = f i) : MI G rk f0 B E f2 t (j + k) (c1 + k) (n1 - k) c2 n2 := by
  obtain ⟨⟨a1, a2, a3, a4⟩, p, o, s1, s2, s3, l1, l2, l3, ok1, ok2⟩ := h
  refine ⟨⟨by omega, by omega, a3, by omega⟩, ?_, fun i hi => ?_, fun x y hx hxy hy => ?_, fun x y hx hxy hy => s2 x y (by omega) hxy (by omega), fun x y hx hxy hy => ?_, fun x y hx hxy hy hy2 => ?_, fun x y hx hxy hy hy2 => ?_, fun x hx hx2 => ?_, fun x hx hx2 => ok1 x (by omega) (by omega), fun x hx hx2 => ?_⟩
  · have e1 : sg f2 B (j + k - B) = sg f B (j - B) ++ sg t c1 k := by
      rw [show j + k - B = (j - B) + k by omega, sg_add, sg_cg (j - B) B fun i a b => g2 i (by omega), show B + (j - B) = j by omega]
      congr 1
      by_cases hc : c1 ≤ j
      · have : sg t c1 k = sg f2 (c1 + (j - c1)) k := sg_sh k c1 fun i a b => by
          rw [g1 (i + (j - c1)) (by omega) (by omega)]; congr 1; omega
        rw [this, show c1 + (j - c1) = j by omega]
      · have : sg f2 j k = sg t (j + (c1 - j)) k := sg_sh k j fun i a b => by
          rw [g1 i (by omega) (by omega)]; congr 1; omega
        rw [this, show j + (c1 - j) = c1 by omega]
    have e2 : sg t c1 n1 = sg t c1 k ++ sg t (c1 + k) (n1 - k) := by
      rw [← sg_add, show k + (n1 - k) = n1 by omega]
    have e3 : sg f2 c2 n2 = sg f c2 n2 := sg_cg n2 c2 fun i a b => g2 i (by omega)
    rw [e1, e3]
    rw [e2] at p
    simpa only [List.append_assoc] using p
  · rw [g2 i (by omega)]; exact o i hi
  · by_cases hyj : y < j
    · rw [g2 x (by omega), g2 y (by omega)]; exact s1 x y hx hxy (by omega)
    · rw [g1 y (by omega) (by omega)]
      by_cases hxj : x < j
      · rw [g2 x (by omega)]; exact l1 x _ hx hxj (by omega) (by omega)
      · rw [g1 x (by omega) (by omega)]; exact s2 _ _ (by omega) (by omega) (by omega)
  · rw [g2 x (by omega), g2 y (by omega)]; exact s3 x y hx hxy hy
  · by_cases hxj : x < j
    · rw [g2 x (by omega)]; exact l1 x y hx hxj (by omega) (by omega)
    · rw [g1 x (by omega) (by omega)]; exact s2 _ _ (by omega) (by omega) (by omega)
  · rw [g2 y (by omega)]
    by_cases hxj : x < j
    · rw [g2 x (by omega)]; exact l2 x y hx hxj hy hy2
    · rw [g1 x (by omega) (by omega)]
      rcases hle with hle | hle
      · omega
      · exact Int.le_trans (s2 _ (c1 + k - 1) (by omega) (by omega) (by omega)) (hle y hy hy2)
  · rw [g2 x (by omega), show c1 + k + (n1 - k) - 1 = c1 + n1 - 1 by omega]; exact l3 x hx hx2
  · rw [g2 x (by omega)]; exact ok2 x hx hx2
/-- some of the other run are laid -/
theorem MI.mvR (h : MI G rk f0 B E f t j c1 n1 c2 n2) (hk : k ≤ n2) (hle : ∀ i, c2 ≤ i → i < c2 + k → rk (f i) ≤ rk (t c1)) (g1 : ∀ i, j ≤ i → i < j + k → f2 i = f (c2 + (i - j))) (g2 : ∀ i, i < j ∨ j + k ≤ i → f2 i = f i) : MI G rk f0 B E f2 t (j + k) c1 n1 (c2 + k) (n2 - k) := by
  obtain ⟨⟨a1, a2, a3, a4⟩, p, o, s1, s2, s3, l1, l2, l3, ok1, ok2⟩ := h
  refine ⟨⟨by omega, by omega, by omega, a4⟩, ?_, fun i hi => ?_, fun x y hx hxy hy => ?_, s2, fun x y hx hxy hy => ?_, fun x y hx hxy hy hy2 => ?_, fun x y hx hxy hy hy2 => ?_, fun x hx hx2 => ?_, ok1, fun x hx hx2 => ?_⟩
  · have e1 : sg f2 B (j + k - B) = sg f B (j - B) ++ sg f c2 k := by
      rw [show j + k - B = (j - B) + k by omega, sg_add, sg_cg (j - B) B fun i a b => g2 i (by omega), show B + (j - B) = j by omega]
      congr 1
      have : sg f2 j k = sg f (j + (c2 - j)) k := sg_sh k j fun i a b => by
        rw [g1 i (by omega) (by omega)]; congr 1; omega
      rw [this, show j + (c2 - j) = c2 by omega]
    have e2 : sg f c2 n2 = sg f c2 k ++ sg f (c2 + k) (n2 - k) := by
      rw [← sg_add, show k + (n2 - k) = n2 by omega]
    have e3 : sg f2 (c2 + k) (n2 - k) = sg f (c2 + k) (n2 - k) := sg_cg _ _ fun i a b => g2 i (by omega)
    rw [e1, e3]
    rw [e2] at p
    refine List.Perm.trans ?_ p
    rw [List.append_assoc]
    refine List.Perm.append_left _ ?_
    rw [← List.append_assoc, ← List.append_assoc]
    exact List.Perm.append_right _ List.perm_append_comm
  · rw [g2 i (by omega)]; exact o i hi
  · by_cases hyj : y < j
    · rw [g2 x (by omega), g2 y (by omega)]; exact s1 x y hx hxy (by omega)
    · rw [g1 y (by omega) (by omega)]
      by_cases hxj : x < j
      · rw [g2 x (by omega)]; exact l2 x _ hx hxj (by omega) (by omega)
      · rw [g1 x (by omega) (by omega)]; exact s3 _ _ (by omega) (by omega) (by omega)
  · rw [g2 x (by omega), g2 y (by omega)]; exact s3 x y (by omega) hxy (by omega)
  · by_cases hxj : x < j
    · rw [g2 x (by omega)]; exact l1 x y hx hxj hy hy2
    · rw [g1 x (by omega) (by omega)]
      exact Int.le_trans (hle _ (by omega) (by omega)) (s2 c1 y (Nat.le_refl _) hy hy2)
  · rw [g2 y (by omega)]
    by_cases hxj : x < j
    · rw [g2 x (by omega)]; exact l2 x y hx hxj (by omega) hy2
    · rw [g1 x (by omega) (by omega)]; exact s3 _ _ (by omega) (by omega) (by omega)
  · rw [g2 x (by omega)]; exact l3 x (by omega) hx2
  · rw [g2 x (by omega)]; exact ok2 x (by omega) (by omega)
/-- all the rest is of the first run -/
theorem MI.fin (h : MI G rk f0 B E f t j c1 n1 c2 0) (g1 : ∀ i, j ≤ i → i < j + n1 → f2 i = t (c1 + (i - j))) (g2 : ∀ i, i < j ∨ j + n1 ≤ i → f2 i = f i) : SrtA rk f2 B (E - B) ∧ PmR f0 f2 B (E - B) := by
  obtain ⟨⟨a1, a2, a3, a4⟩, p, o, s1, s2, s3, l1, l2, l3, ok1, ok2⟩ := h
  refine ⟨fun x y hx hxy hy => ?_, ?_, fun i hi => ?_⟩
  · by_cases hyj : y < j
    · rw [g2 x (by omega), g2 y (by omega)]; exact s1 x y hx hxy (by omega)
    · rw [g1 y (by omega) (by omega)]
      by_cases hxj : x < j
      · rw [g2 x (by omega)]; exact l1 x _ hx hxj (by omega) (by omega)
      · rw [g1 x (by omega) (by omega)]; exact s2 _ _ (by omega) (by omega) (by omega)
  · have e1 : sg f2 B (E - B) = sg f B (j - B) ++ sg t c1 n1 := by
      rw [show E - B = (j - B) + n1 by omega, sg_add, sg_cg (j - B) B fun i a b => g2 i (by omega), show B + (j - B) = j by omega]
      congr 1
      by_cases hc : c1 ≤ j
      · have : sg t c1 n1 = sg f2 (c1 + (j - c1)) n1 := sg_sh n1 c1 fun i a b => by
          rw [g1 (i + (j - c1)) (by omega) (by omega)]; congr 1; omega
        rw [this, show c1 + (j - c1) = j by omega]
      · have : sg f2 j n1 = sg t (j + (c1 - j)) n1 := sg_sh n1 j fun i a b => by
          rw [g1 i (by omega) (by omega)]; congr 1; omega
        rw [this, show j + (c1 - j) = c1 by omega]
    rw [e1]
    have : sg f c2 0 = [] := rfl
    rw [this, List.append_nil] at p
    exact p
  · rw [g2 i (by omega)]; exact o i (by omega)
end
