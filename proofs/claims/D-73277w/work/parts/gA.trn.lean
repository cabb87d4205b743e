/-! stores stay well made by transactions; the twin's draws -/
section
variable {S S' L : Int → Int} {i : Int}
theorem bgS_at : bgS S i = if 843 ≤ i ∧ i < 1239 then S (i + -495) else if 744 ≤ i ∧ i < 843 then S (i + -594) else if i = 149 then 1 else S i := by
  unfold bgS bl
  simp only
  by_cases a : 843 ≤ i ∧ i < 1239
  · rw [if_pos a, if_pos a, if_neg (by omega), fset_ne (by omega)]
  · rw [if_neg a, if_neg a]
    by_cases b : 744 ≤ i ∧ i < 843
    · rw [if_pos b, if_pos b, fset_ne (by omega)]
    · rw [if_neg b, if_neg b]
      by_cases c : i = 149
      · rw [if_pos c, c, fset_eq]
      · rw [if_neg c, fset_ne c]
theorem clS_at : clS S i = if 744 ≤ i ∧ i < 1239 then 0 else S i := by
  unfold clS bl
  by_cases a : 843 ≤ i ∧ i < 1239
  · rw [if_pos a, if_pos (by omega)]
  · rw [if_neg a]
    by_cases b : 744 ≤ i ∧ i < 843
    · rw [if_pos b, if_pos (by omega)]
    · rw [if_neg b, if_neg (by omega)]
theorem bkS_at : bkS S i = if 744 ≤ i ∧ i < 1239 then 0 else if 348 ≤ i ∧ i < 744 then S (i + 495) else if 150 ≤ i ∧ i < 249 then S (i + 594) else if i = 149 then 0 else S i := by
  unfold bkS
  rw [clS_at]
  by_cases z : 744 ≤ i ∧ i < 1239
  · rw [if_pos z, if_pos z]
  · rw [if_neg z, if_neg z]
    unfold bl
    by_cases a : 348 ≤ i ∧ i < 744
    · rw [if_pos a, if_pos a]
      show (if 150 ≤ i + 495 ∧ i + 495 < 249 then fset S 149 0 (i + 495 + 594) else fset S 149 0 (i + 495)) = S (i + 495)
      rw [if_neg (by omega), fset_ne (by omega)]
    · rw [if_neg a, if_neg a]
      by_cases b : 150 ≤ i ∧ i < 249
      · rw [if_pos b, if_pos b]
        show fset S 149 0 (i + 594) = S (i + 594)
        exact fset_ne (by omega)
      · rw [if_neg b, if_neg b]
        by_cases c : i = 149
        · rw [if_pos c, c, fset_eq]
        · rw [if_neg c, fset_ne c]
theorem cntA_sh {a a' : Int} : ∀ (n : Nat) (r : Int), (∀ i, r ≤ i → i < r + n → S' (a' + i) = S (a + i)) → cntA S' a' n r = cntA S a n r
  | 0, r, _ => rfl
  | n + 1, r, h => by
    simp only [cntA]
    rw [h r (by omega) (by omega), cntA_sh n (r + 1) (fun i h1 h2 => h i (by omega) (by omega))]
theorem cntA_no {a : Int} : ∀ (n : Nat) (r : Int), (∀ i, r ≤ i → i < r + n → S (a + i) = 0) → cntA S a n r = 0
  | 0, r, _ => rfl
  | n + 1, r, h => by
    simp only [cntA]
    rw [h r (by omega) (by omega), cntA_no n (r + 1) (fun i h1 h2 => h i (by omega) (by omega))]
    rfl
theorem StW.bg (W : StW S) : StW (bgS S) := by
  obtain ⟨w1, w2, w3, w4, w5, w6, w7, w8⟩ := id W
  have lo : ∀ i, i < 744 → i ≠ 149 → bgS S i = S i := fun i h1 h2 => by rw [bgS_at, if_neg (by omega), if_neg (by omega), if_neg h2]
  have al : ∀ r, 0 ≤ r → r < 99 → bgS S (744 + r) = S (150 + r) := fun r r0 r1 => by rw [bgS_at, if_neg (by omega), if_pos (by omega), show 744 + r + -594 = 150 + r by omega]
  have ce : ∀ k, 0 ≤ k → k < 396 → bgS S (843 + k) = S (348 + k) := fun k k0 k1 => by rw [bgS_at, if_pos (by omega), show 843 + k + -495 = 348 + k by omega]
  refine ⟨w1.cg fun i h => lo i (by omega) (by omega), fun r r0 r1 => ?_, fun i h1 h2 => by rw [lo i (by omega) (by omega)]; exact w3 i h1 h2, fun i h1 h2 => ?_, by rw [lo 148 (by omega) (by omega)]; exact w5, Or.inr ?_, ?_, ?_⟩
  · obtain ⟨a, -, c⟩ := w2 r r0 r1
    have co := W.co c.1 c.2
    rw [lo (249 + r) (by omega) (by omega)]
    refine ⟨?_, ?_, c⟩
    · unfold RowW at a ⊢
      rw [lo (150 + r) (by omega) (by omega), lo (249 + r) (by omega) (by omega), lo 0 (by omega) (by omega), lo 148 (by omega) (by omega), lo (4 + S (249 + r)) (by omega) (by omega)]
      exact ⟨a.1, fun h => ⟨(a.2 h).1, (a.2 h).2.1, fun k h1 h2 => by rw [lo _ (by omega) (by omega)]; exact (a.2 h).2.2 k h1 h2⟩⟩
    · unfold RowW at a ⊢
      rw [al r r0 r1, lo (249 + r) (by omega) (by omega), lo 0 (by omega) (by omega), lo 148 (by omega) (by omega), lo (4 + S (249 + r)) (by omega) (by omega)]
      exact ⟨a.1, fun h => ⟨(a.2 h).1, (a.2 h).2.1, fun k h1 h2 => by rw [show 843 + 4 * r + k = 843 + (4 * r + k) by omega, ce _ (by omega) (by omega), show 348 + (4 * r + k) = 348 + 4 * r + k by omega]; exact (a.2 h).2.2 k h1 h2⟩⟩
  · have := ce (i - 843) (by omega) (by omega)
    rw [show 843 + (i - 843) = i by omega] at this
    rw [this]
    exact w3 _ (by omega) (by omega)
  · rw [bgS_at, if_neg (by omega), if_neg (by omega), if_pos rfl]
  · rw [cntA_sh (S := S) (a := 150) 99 0 fun i h1 h2 => lo _ (by omega) (by omega)]; exact w7
  · rw [cntA_sh (S := S) (a := 150) 99 0 fun i h1 h2 => al i h1 (by omega)]; exact w7
/-- nothing is kept, no transaction is on -/
theorem StW.cl {S' : Int → Int} (W : StW S) (e : ∀ i, i < 744 → i ≠ 149 → ¬ (150 ≤ i ∧ i < 249) → ¬ (348 ≤ i ∧ i < 744) → S' i = S i) (e149 : S' 149 = 0) (hz : ∀ i, 744 ≤ i → i < 1239 → S' i = 0) {at_ ct : Int} (hat : (at_ = 150 ∧ ct = 348) ∨ (at_ = 744 ∧ ct = 843)) (ea : ∀ r, 0 ≤ r → r < 99 → S' (150 + r) = S (at_ + r)) (ec : ∀ k, 0 ≤ k → k < 396 → S' (348 + k) = S (ct + k)) : StW S' := by
  obtain ⟨w1, w2, w3, w4, w5, w6, w7, w8⟩ := id W
  refine ⟨w1.cg fun i h => e i (by omega) (by omega) (by omega) (by omega), fun r r0 r1 => ?_, fun i h1 h2 => ?_, fun i h1 h2 => by rw [hz i (by omega) (by omega)]; omega, by rw [e 148 (by omega) (by omega) (by omega) (by omega)]; exact w5, Or.inl e149, ?_, ?_⟩
  · obtain ⟨a, b, c⟩ := w2 r r0 r1
    have co := W.co c.1 c.2
    have a' : RowW S at_ ct r := by
      rcases hat with ⟨rfl, rfl⟩ | ⟨rfl, rfl⟩
      · exact a
      · exact b
    rw [e (249 + r) (by omega) (by omega) (by omega) (by omega)]
    refine ⟨?_, ?_, c⟩
    · unfold RowW at a' ⊢
      rw [ea r r0 r1, e (249 + r) (by omega) (by omega) (by omega) (by omega), e 0 (by omega) (by omega) (by omega) (by omega), e 148 (by omega) (by omega) (by omega) (by omega), e (4 + S (249 + r)) (by omega) (by omega) (by omega) (by omega)]
      exact ⟨a'.1, fun h => ⟨(a'.2 h).1, (a'.2 h).2.1, fun k h1 h2 => by rw [show 348 + 4 * r + k = 348 + (4 * r + k) by omega, ec _ (by omega) (by omega), show ct + (4 * r + k) = ct + 4 * r + k by omega]; exact (a'.2 h).2.2 k h1 h2⟩⟩
    · unfold RowW
      rw [hz (744 + r) (by omega) (by omega)]
      exact ⟨Or.inl rfl, fun h => by omega⟩
  · have := ec (i - 348) (by omega) (by omega)
    rw [show 348 + (i - 348) = i by omega] at this
    rw [this]
    rcases hat with ⟨rfl, rfl⟩ | ⟨rfl, rfl⟩
    · exact w3 _ (by omega) (by omega)
    · exact w4 _ (by omega) (by omega)
  · rw [cntA_sh (S := S) (a := at_) 99 0 fun i h1 h2 => ea i h1 (by omega)]
    rcases hat with ⟨rfl, rfl⟩ | ⟨rfl, rfl⟩
    · exact w7
    · exact w8
  · rw [cntA_no 99 0 fun i h1 h2 => hz _ (by omega) (by omega)]; omega
theorem StW.co0 (W : StW S) : StW (clS (fset S 149 0)) := W.cl (fun i h1 h2 h3 h4 => by rw [clS_at, if_neg (by omega), fset_ne h2]) (by rw [clS_at, if_neg (by omega), fset_eq]) (fun i h1 h2 => by rw [clS_at, if_pos ⟨h1, h2⟩]) (Or.inl ⟨rfl, rfl⟩) (fun r r0 r1 => by rw [clS_at, if_neg (by omega), fset_ne (by omega)]) (fun k k0 k1 => by rw [clS_at, if_neg (by omega), fset_ne (by omega)])
theorem StW.bk (W : StW S) : StW (bkS S) := W.cl (fun i h1 h2 h3 h4 => by rw [bkS_at, if_neg (by omega), if_neg (by omega), if_neg (by omega), if_neg h2]) (by rw [bkS_at, if_neg (by omega), if_neg (by omega), if_neg (by omega), if_pos rfl]) (fun i h1 h2 => by rw [bkS_at, if_pos ⟨h1, h2⟩]) (Or.inr ⟨rfl, rfl⟩) (fun r r0 r1 => by rw [bkS_at, if_neg (by omega), if_neg (by omega), if_pos (by omega), show 150 + r + 594 = 744 + r by omega]) (fun k k0 k1 => by rw [bkS_at, if_neg (by omega), if_pos (by omega), show 348 + k + 495 = 843 + k by omega])
end
