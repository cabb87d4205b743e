/-! no store is violated more than 960 times -/
def b1Z (b : Bool) : Int := if b = true then 1 else 0
def cRo (S : Int → Int) (t : Int) : Nat → Int → Int
  | 0, _ => 0
  | j + 1, r => b1Z (rowOf S r t) + cRo S t j (r + 1)
def rcT (S : Int → Int) (r : Int) : Nat → Int → Int
  | 0, _ => 0
  | k + 1, t => b1Z (rowOf S r t) + rcT S r k (t + 1)
def totR (S : Int → Int) (j : Nat) (r : Int) : Nat → Int → Int
  | 0, _ => 0
  | k + 1, t => cRo S t j r + totR S j r k (t + 1)
section
variable {S : Int → Int}
theorem b1Z_rg {b : Bool} : 0 ≤ b1Z b ∧ b1Z b ≤ 1 := by cases b <;> decide
theorem rcT_le {r : Int} (ha : S (150 + r) = 0 ∨ S (150 + r) = 1) : ∀ (k : Nat) (t : Int), 0 ≤ rcT S r k t ∧ rcT S r k t ≤ S (150 + r) ∧ (S (249 + r) < t → rcT S r k t = 0) := by
  intro k
  induction k with
  | zero => intro t; exact ⟨Int.le_refl _, by simp only [rcT]; omega, fun _ => rfl⟩
  | succ k ih =>
    intro t
    obtain ⟨i1, i2, i3⟩ := ih (t + 1)
    simp only [rcT]
    by_cases e1 : S (150 + r) = 1
    · by_cases e2 : S (249 + r) = t
      · have e : b1Z (rowOf S r t) = 1 := by unfold rowOf b1Z; simp [e1, e2]
        rw [e, i3 (by omega)]
        exact ⟨by omega, by omega, fun h => by omega⟩
      · have e : b1Z (rowOf S r t) = 0 := by unfold rowOf b1Z; simp [e2]
        rw [e]
        exact ⟨by omega, by omega, fun h => by rw [i3 (by omega)]; rfl⟩
    · have e : b1Z (rowOf S r t) = 0 := by unfold rowOf b1Z; simp [e1]
      rw [e]
      exact ⟨by omega, by omega, fun h => by rw [i3 (by omega)]; rfl⟩
theorem totR_0 {r : Int} : ∀ (k : Nat) (t : Int), totR S 0 r k t = 0 := by
  intro k
  induction k with
  | zero => intro t; rfl
  | succ k ih => intro t; simp only [totR, cRo, ih]; rfl
theorem totR_s {j : Nat} {r : Int} : ∀ (k : Nat) (t : Int), totR S (j + 1) r k t = rcT S r k t + totR S j (r + 1) k t := by
  intro k
  induction k with
  | zero => intro t; rfl
  | succ k ih => intro t; simp only [totR, cRo, rcT, ih]; omega
theorem totR_le (k : Nat) (t : Int) : ∀ (j : Nat) (r : Int), (∀ i, r ≤ i → i < r + j → S (150 + i) = 0 ∨ S (150 + i) = 1) → totR S j r k t ≤ cntA S 150 j r := by
  intro j
  induction j with
  | zero => intro r _; rw [totR_0]; exact Int.le_refl _
  | succ j ih =>
    intro r h
    have a := (rcT_le (h r (by omega) (by omega)) k t).2.1
    have b := ih (r + 1) (fun i h1 h2 => h i (by omega) (by omega))
    rw [totR_s]
    simp only [cntA]
    omega
theorem cRo_pos {t : Int} : ∀ (j : Nat) (r : Int), 0 ≤ cRo S t j r := by
  intro j
  induction j with
  | zero => intro r; exact Int.le_refl _
  | succ j ih =>
    intro r
    have := ih (r + 1)
    have := b1Z_rg (b := rowOf S r t)
    simp only [cRo]
    omega
theorem totR_pos {j : Nat} {r : Int} : ∀ (k : Nat) (t : Int), 0 ≤ totR S j r k t := by
  intro k
  induction k with
  | zero => intro t; exact Int.le_refl _
  | succ k ih =>
    intro t
    have := ih (t + 1)
    have := cRo_pos (S := S) (t := t) j r
    simp only [totR]
    omega
theorem rowsV_le {so n t : Int} {F : Int → Bool} (hF : ∀ r, F r = true → rowOf S r t = true) : ∀ (j : Nat) (r : Int), ((rowsV so n F j r).length : Int) ≤ cRo S t j r := by
  intro j
  induction j with
  | zero => intro r; exact Int.le_refl _
  | succ j ih =>
    intro r
    have i := ih (r + 1)
    have b := b1Z_rg (b := rowOf S r t)
    simp only [rowsV, cRo]
    by_cases e : F r = true
    · rw [if_pos e, hF r e, show b1Z true = 1 by decide]
      simp only [List.length_cons]
      omega
    · rw [if_neg e]
      omega
theorem ndC_le {t : Int} : ∀ (j : Nat) (c : Int), ((ndC S t j c).length : Int) ≤ j * cRo S t 99 0 := by
  intro j
  induction j with
  | zero => intro c; simp [ndC]
  | succ j ih =>
    intro c
    have i := ih (c + 1)
    have p := cRo_pos (S := S) (t := t) 99 0
    simp only [ndC, List.length_append]
    have h1 : (((if neededS S t c = true then rowsV 1 c (fun r => rowOf S r t && decide (cellS S r c < 0)) 99 0 else []).length : Nat) : Int) ≤ cRo S t 99 0 := by
      split
      · exact rowsV_le (fun r h => by simp only [Bool.and_eq_true] at h; exact h.1) 99 0
      · simpa using p
    have : ((j + 1 : Nat) : Int) * cRo S t 99 0 = j * cRo S t 99 0 + cRo S t 99 0 := by rw [Int.natCast_add, Int.add_mul]; simp
    rw [this]
    omega
theorem ndT_le (W : StW S) : ∀ (j : Nat) (t : Int), 0 ≤ t → t + j ≤ 4 → ((ndT S j t).length : Int) ≤ 4 * totR S 99 0 j t := by
  intro j
  induction j with
  | zero => intro t _ _; simp [ndT, totR]
  | succ j ih =>
    intro t t0 t1
    have i := ih (t + 1) (by omega) (by omega)
    have co := W.co t0 (by omega)
    have c := ndC_le (S := S) (t := t) (S (4 + t)).toNat 0
    have p := cRo_pos (S := S) (t := t) 99 0
    simp only [ndT, totR, List.length_append]
    have q : (((S (4 + t)).toNat : Nat) : Int) * cRo S t 99 0 ≤ 4 * cRo S t 99 0 := Int.mul_le_mul_of_nonneg_right (by omega) p
    omega
theorem cRo_40 (W : StW S) (t : Int) : cRo S t 99 0 ≤ 40 := by
  have a := totR_le (S := S) 1 t 99 0 (fun i h1 h2 => W.al h1 (by omega))
  have b := W.2.2.2.2.2.2.1
  simp only [totR] at a
  omega
theorem keysV_le (W : StW S) : ∀ (j : Nat) (k : Int), ((keysV S j k).length : Int) ≤ 40 * j := by
  intro j
  induction j with
  | zero => intro k; simp [keysV]
  | succ j ih =>
    intro k
    have i := ih (k + 1)
    have c := cRo_40 W (S (40 + k))
    have r := rowsV_le (S := S) (so := 2) (n := k) (t := S (40 + k)) (F := fun r => rowOf S r (S (40 + k)) && earlS S r k) (fun r h => by simp only [Bool.and_eq_true] at h; exact h.1) 99 0
    simp only [keysV, List.length_append]
    omega
theorem refsV_le (W : StW S) {late : Bool} : ∀ (j : Nat) (k : Int), ((refsV S late j k).length : Int) ≤ 40 * j := by
  intro j
  induction j with
  | zero => intro k; simp [refsV]
  | succ j ih =>
    intro k
    have i := ih (k + 1)
    have c := cRo_40 W (S (58 + k))
    have r := rowsV_le (S := S) (so := 3) (n := k) (t := S (58 + k)) (F := fun r => rowOf S r (S (58 + k)) && badRefS S r k) (fun r h => by simp only [Bool.and_eq_true] at h; exact h.1) 99 0
    simp only [refsV, List.length_append]
    split
    · simp only [List.length_nil]; omega
    · omega
theorem chksV_le (W : StW S) {late : Bool} : ∀ (j : Nat) (k : Int), ((chksV S late j k).length : Int) ≤ 40 * j := by
  intro j
  induction j with
  | zero => intro k; simp [chksV]
  | succ j ih =>
    intro k
    have i := ih (k + 1)
    have c := cRo_40 W (S (112 + k))
    have r := rowsV_le (S := S) (so := 4) (n := k) (t := S (112 + k)) (F := fun r => rowOf S r (S (112 + k)) && badChkS S r k) (fun r h => by simp only [Bool.and_eq_true] at h; exact h.1) 99 0
    simp only [chksV, List.length_append]
    split
    · simp only [List.length_nil]; omega
    · omega
theorem violS_le (W : StW S) {late : Bool} : (violS S late).length ≤ 960 := by
  have n := W.n0
  have a := ndT_le W (S 0).toNat 0 (by omega) (by omega)
  have b := totR_le (S := S) (S 0).toNat 0 99 0 (fun i h1 h2 => W.al h1 (by omega))
  have c := W.2.2.2.2.2.2.1
  have k := keysV_le W (S 1).toNat 0
  have r := refsV_le W (late := late) (S 2).toNat 0
  have h := chksV_le W (late := late) (S 3).toNat 0
  unfold violS
  simp only [List.length_append]
  omega
theorem tm_judgesAll {d m : Nat} {h : AH} {T : Nat → Int → Int} {late : Bool} (W : StW (T 2)) : M (d + 5) 7060 [.ref m, .int (zI (bZ late))] (tw m T h) = some (.inl none, tw m (layL (ts T 0 26 0) (violS (T 2) late)) h) := tm_judgesAll0 W (violS_le W)
end
