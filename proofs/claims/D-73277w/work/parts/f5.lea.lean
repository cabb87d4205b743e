/-! wants: the least closed ones, however they are found; without program -/
/-- a column of r is to have what a reference lays on it -/
def valC (S : Int → Int) (f : Int) (b : Bool) (c : Int) : Int := if b = true then S (8 + 4 * S (58 + f) + c) else -1
def AllC (S : Int → Int) (r f : Int) (b : Bool) (W : Int → Int) : Prop := W (4 * r + S (64 + f)) = valC S f b (S (64 + f)) ∧ (¬ S (70 + f) < 0 → W (4 * r + S (70 + f)) = valC S f b (S (70 + f)))
def Rul (S : Int → Int) (g : Bool) (r f q : Int) (W : Int → Int) : Prop := (g = true → 2 ≤ S (88 + f) → AllC S r f (decide (S (88 + f) = 3)) W) ∧
  (g = false → movW S f q (W, 0, 0) = true → (S (94 + f) = 1 → (isOth S (W, 0, 0) q (S (46 + S (82 + f))) = true → W (4 * r + S (64 + f)) = W (4 * q + S (46 + S (82 + f)))) ∧ (¬ S (52 + S (82 + f)) < 0 → isOth S (W, 0, 0) q (S (52 + S (82 + f))) = true → W (4 * r + S (70 + f)) = W (4 * q + S (52 + S (82 + f))))) ∧ (2 ≤ S (94 + f) → AllC S r f (decide (S (94 + f) = 3)) W))
def SupW (w : WS) (W : Int → Int) : Prop := ∀ i, 0 ≤ i → i < 396 → w.1 i ≠ -9 → w.1 i = W i
def FinW (w : WS) : Prop := w.2.1 = 0 ∧ w.2.2 = 0
section
variable {S : Int → Int} {w w0 w1 w2 : WS} {W : Int → Int} {r f q c i v : Int} {g : Bool}
theorem want1_sup (h : SupW w W) (h0 : w.2.1 = 0) (i0 : 0 ≤ i) (i1 : i < 396) (hv : W i = v) : SupW (want1 w i v) W ∧ (want1 w i v).2.1 = 0 := by
  unfold want1
  by_cases e : w.1 i = -9
  · rw [if_pos e]
    refine ⟨fun j j0 j1 hj => ?_, h0⟩
    show fset w.1 i v j = W j
    have hj : fset w.1 i v j ≠ -9 := hj
    by_cases hji : j = i
    · rw [hji, fset_eq, hv]
    · rw [fset_ne hji] at hj ⊢; exact h j j0 j1 hj
  · rw [if_neg e]
    refine ⟨h, ?_⟩
    have := h i i0 i1 e
    show (if w.2.1 = 0 ∧ w.1 i = v then (0 : Int) else 1) = 0
    rw [if_pos ⟨h0, this.trans hv⟩]
theorem want1_fin (h : FinW (want1 w i v)) (hc : w.2.1 = 0 ∨ w.2.1 = 1) : want1 w i v = w ∧ w.1 i = v := by
  obtain ⟨a, b, c⟩ := w
  unfold want1 FinW at h
  unfold want1
  by_cases e : a i = -9
  · rw [if_pos e] at h
    have h2 : (1 : Int) = 0 := h.2
    exact absurd h2 (by decide)
  · simp only [if_neg e] at h ⊢
    by_cases e2 : b = 0 ∧ a i = v
    · rw [if_pos e2, e2.1]; exact ⟨rfl, e2.2⟩
    · rw [if_neg e2] at h
      have h2 : (1 : Int) = 0 := h.1
      exact absurd h2 (by decide)
theorem isOth_sup (hw : WsW w) (h : SupW w W) (i0 : 0 ≤ 4 * q + c) (i1 : 4 * q + c < 396) (ho : isOth S w q c = true) : isOth S (W, 0, 0) q c = true ∧ W (4 * q + c) = w.1 (4 * q + c) := by
  have e : w.1 (4 * q + c) ≠ -9 := by
    intro e
    unfold isOth at ho
    rw [e] at ho
    simp at ho
  have := h _ i0 i1 e
  refine ⟨?_, this.symm⟩
  unfold isOth at ho ⊢
  rw [this] at ho
  exact ho
theorem isOth_1 : isOth S (w.1, 0, 0) q c = isOth S w q c := rfl
theorem movW_1 : movW S f q (w.1, 0, 0) = movW S f q w := rfl
theorem wantsA_eq {b : Bool} (h64 : ¬ S (64 + f) < 0) : wantsA S r f b w = if S (70 + f) < 0 then want1 w (4 * r + S (64 + f)) (valC S f b (S (64 + f))) else want1 (want1 w (4 * r + S (64 + f)) (valC S f b (S (64 + f)))) (4 * r + S (70 + f)) (valC S f b (S (70 + f))) := by
  unfold wantsA valC
  simp only [if_neg h64]
theorem valC_rg (W : StW S) {b : Bool} (f0 : 0 ≤ f) (f1 : f < S 2) (c0 : 0 ≤ c) (c1 : c < 4) : -1 ≤ valC S f b c ∧ valC S f b c ≤ 99 := by
  obtain ⟨a1, -⟩ := W.ref f0 f1
  unfold valC
  split
  · exact W.bx (by omega) (by omega)
  · decide
theorem wantsA_sup {b : Bool} (WS' : StW S) (h : SupW w W) (h0 : w.2.1 = 0) (r0 : 0 ≤ r) (r1 : r < 99) (f0 : 0 ≤ f) (f1 : f < S 2) (hA : AllC S r f b W) : SupW (wantsA S r f b w) W ∧ (wantsA S r f b w).2.1 = 0 := by
  obtain ⟨a1, a2, a3, -⟩ := WS'.ref f0 f1
  rw [wantsA_eq (by omega)]
  obtain ⟨x1, x2⟩ := want1_sup h h0 (by omega) (by omega) hA.1
  by_cases h2 : S (70 + f) < 0
  · rw [if_pos h2]; exact ⟨x1, x2⟩
  · rw [if_neg h2]; exact want1_sup x1 x2 (by omega) (by omega) (hA.2 h2)
theorem wantsA_fin {b : Bool} (WS' : StW S) (hw : WsW w) (f0 : 0 ≤ f) (f1 : f < S 2) (h : FinW (wantsA S r f b w)) : wantsA S r f b w = w ∧ AllC S r f b w.1 := by
  obtain ⟨a1, a2, a3, -⟩ := WS'.ref f0 f1
  rw [wantsA_eq (by omega)] at h ⊢
  by_cases h2 : S (70 + f) < 0
  · rw [if_pos h2] at h ⊢
    obtain ⟨x1, x2⟩ := want1_fin h hw.2.1
    exact ⟨x1, x2, fun z => absurd h2 z⟩
  · rw [if_neg h2] at h ⊢
    obtain ⟨x1, x2⟩ := want1_fin h (want1_W hw (valC_rg WS' f0 f1 a2.1 a2.2)).2.1
    rw [x1] at h ⊢
    obtain ⟨y1, y2⟩ := want1_fin h hw.2.1
    rw [y1] at x2 ⊢
    exact ⟨rfl, y2, fun _ => x2⟩
/-- the plan's step -/
theorem com1_sup {gg : Nat → Bool} (WS' : StW S) (hw : WsW w) (h : SupW w W) (h0 : w.2.1 = 0) (r0 : 0 ≤ r) (r1 : r < 99) (f0 : 0 ≤ f) (f1 : f < S 2) (q1 : q < 99) (hR : 0 ≤ q → Rul S (gg q.toNat) r f q W) : SupW (com1 S gg r f q w) W ∧ (com1 S gg r f q w).2.1 = 0 := by
  obtain ⟨K1, K2, -⟩ := WS'.key2 f0 f1
  have ky := WS'.key K1.1 K1.2
  obtain ⟨a1, a2, a3, -⟩ := WS'.ref f0 f1
  unfold com1
  by_cases hq : q < 0
  · rw [if_pos hq]; exact ⟨h, h0⟩
  · rw [if_neg hq]
    have hR := hR (by omega)
    cases hg : gg q.toNat with
    | true =>
      rw [hg] at hR
      rw [if_pos rfl]
      by_cases ho : S (88 + f) ≤ 1
      · rw [if_pos ho]; exact ⟨h, h0⟩
      · rw [if_neg ho]; exact wantsA_sup WS' h h0 r0 r1 f0 f1 (hR.1 rfl (by omega))
    | false =>
      rw [hg] at hR
      rw [if_neg (by decide)]
      cases hm : movW S f q w with
      | false => rw [if_pos rfl]; exact ⟨h, h0⟩
      | true =>
        rw [if_neg (by decide)]
        have mv : movW S f q (W, 0, 0) = true := by
          unfold movW at hm ⊢
          rw [Bool.or_eq_true] at hm ⊢
          rcases hm with hm | hm
          · exact Or.inl (isOth_sup hw h (by omega) (by omega) hm).1
          · rw [Bool.and_eq_true] at hm ⊢
            have : ¬ S (52 + S (82 + f)) < 0 := by simpa using hm.1
            exact Or.inr ⟨hm.1, (isOth_sup hw h (by omega) (by omega) hm.2).1⟩
        obtain ⟨hR1, hR2⟩ := hR.2 rfl mv
        by_cases ho : S (94 + f) = 1
        · rw [if_pos ho]
          obtain ⟨hA, hB⟩ := hR1 ho
          unfold chgW
          simp only
          have st1 : SupW (if isOth S w q (S (46 + S (82 + f))) = true then want1 w (4 * r + S (64 + f)) (w.1 (4 * q + S (46 + S (82 + f)))) else w) W ∧ (if isOth S w q (S (46 + S (82 + f))) = true then want1 w (4 * r + S (64 + f)) (w.1 (4 * q + S (46 + S (82 + f)))) else w).2.1 = 0 ∧ WsW (if isOth S w q (S (46 + S (82 + f))) = true then want1 w (4 * r + S (64 + f)) (w.1 (4 * q + S (46 + S (82 + f)))) else w) := by
            by_cases e : isOth S w q (S (46 + S (82 + f))) = true
            · rw [if_pos e]
              obtain ⟨s1, s2⟩ := isOth_sup hw h (by omega) (by omega) e
              obtain ⟨t1, t2⟩ := want1_sup (i := 4 * r + S (64 + f)) h h0 (by omega) (by omega) ((hA s1).trans s2)
              exact ⟨t1, t2, want1_W hw (isOth_v hw (by omega) q1 ky.2.1.1 ky.2.1.2 e)⟩
            · rw [if_neg e]; exact ⟨h, h0, hw⟩
          obtain ⟨t1, t2, t3⟩ := st1
          generalize (if isOth S w q (S (46 + S (82 + f))) = true then want1 w (4 * r + S (64 + f)) (w.1 (4 * q + S (46 + S (82 + f)))) else w) = ww at *
          by_cases e : (!decide (S (52 + S (82 + f)) < 0) && isOth S ww q (S (52 + S (82 + f)))) = true
          · rw [if_pos e]
            rw [Bool.and_eq_true] at e
            have n2 : ¬ S (52 + S (82 + f)) < 0 := by simpa using e.1
            have n3 : ¬ S (70 + f) < 0 := fun z => n2 (K2.mpr z)
            obtain ⟨s1, s2⟩ := isOth_sup t3 t1 (by omega) (by omega) e.2
            exact want1_sup t1 t2 (by omega) (by omega) ((hB n2 s1).trans s2)
          · rw [if_neg e]; exact ⟨t1, t2⟩
        · rw [if_neg ho]
          by_cases ho2 : S (94 + f) ≤ 1
          · rw [if_pos ho2]; exact ⟨h, h0⟩
          · rw [if_neg ho2]; exact wantsA_sup WS' h h0 r0 r1 f0 f1 (hR2 (by omega))
theorem com1_fin {gg : Nat → Bool} (WS' : StW S) (hw : WsW w) (f0 : 0 ≤ f) (f1 : f < S 2) (q1 : q < 99) (h : FinW (com1 S gg r f q w)) : com1 S gg r f q w = w ∧ (0 ≤ q → Rul S (gg q.toNat) r f q w.1) := by
  obtain ⟨K1, K2, -⟩ := WS'.key2 f0 f1
  have ky := WS'.key K1.1 K1.2
  unfold com1 at h ⊢
  by_cases hq : q < 0
  · rw [if_pos hq]; exact ⟨rfl, fun z => absurd hq (by omega)⟩
  · rw [if_neg hq] at h ⊢
    cases hg : gg q.toNat with
    | true =>
      rw [hg, if_pos rfl] at h
      rw [if_pos rfl]
      by_cases ho : S (88 + f) ≤ 1
      · rw [if_pos ho]; exact ⟨rfl, fun _ => ⟨fun _ z => absurd z (by omega), fun z => by cases z⟩⟩
      · rw [if_neg ho] at h ⊢
        obtain ⟨x1, x2⟩ := wantsA_fin WS' hw f0 f1 h
        exact ⟨x1, fun _ => ⟨fun _ _ => x2, fun z => by cases z⟩⟩
    | false =>
      rw [hg, if_neg (by decide)] at h
      rw [if_neg (by decide)]
      cases hm : movW S f q w with
      | false => rw [if_pos rfl]; exact ⟨rfl, fun _ => ⟨fun z => (by cases z), fun _ z => by rw [movW_1, hm] at z; cases z⟩⟩
      | true =>
        rw [hm, if_neg (by decide)] at h
        rw [if_neg (by decide)]
        by_cases ho : S (94 + f) = 1
        · rw [if_pos ho] at h ⊢
          unfold chgW at h ⊢
          simp only at h ⊢
          by_cases e1 : isOth S w q (S (46 + S (82 + f))) = true
          · rw [if_pos e1] at h ⊢
            by_cases e2 : (!decide (S (52 + S (82 + f)) < 0) && isOth S (want1 w (4 * r + S (64 + f)) (w.1 (4 * q + S (46 + S (82 + f))))) q (S (52 + S (82 + f)))) = true
            · rw [if_pos e2] at h ⊢
              obtain ⟨x1, x2⟩ := want1_fin h (want1_W hw (isOth_v hw (by omega) q1 ky.2.1.1 ky.2.1.2 e1)).2.1
              rw [x1] at h ⊢
              obtain ⟨y1, y2⟩ := want1_fin h hw.2.1
              rw [y1] at x2 ⊢
              exact ⟨rfl, fun _ => ⟨fun z => (by cases z), fun _ _ => ⟨fun _ => ⟨fun _ => y2, fun _ _ => x2⟩, fun z => absurd z (by omega)⟩⟩⟩
            · rw [if_neg e2] at h ⊢
              obtain ⟨y1, y2⟩ := want1_fin h hw.2.1
              rw [y1] at e2 ⊢
              refine ⟨rfl, fun _ => ⟨fun z => (by cases z), fun _ _ => ⟨fun _ => ⟨fun _ => y2, fun n2 z => ?_⟩, fun z => absurd z (by omega)⟩⟩⟩
              exfalso
              apply e2
              rw [Bool.and_eq_true]
              exact ⟨by simpa using n2, z⟩
          · rw [if_neg e1] at h ⊢
            by_cases e2 : (!decide (S (52 + S (82 + f)) < 0) && isOth S w q (S (52 + S (82 + f)))) = true
            · rw [if_pos e2] at h ⊢
              obtain ⟨y1, y2⟩ := want1_fin h hw.2.1
              rw [y1]
              exact ⟨rfl, fun _ => ⟨fun z => (by cases z), fun _ _ => ⟨fun _ => ⟨fun z => absurd z e1, fun _ _ => y2⟩, fun z => absurd z (by omega)⟩⟩⟩
            · rw [if_neg e2]
              refine ⟨rfl, fun _ => ⟨fun z => (by cases z), fun _ _ => ⟨fun _ => ⟨fun z => absurd z e1, fun n2 z => ?_⟩, fun z => absurd z (by omega)⟩⟩⟩
              exfalso
              apply e2
              rw [Bool.and_eq_true]
              exact ⟨by simpa using n2, z⟩
        · rw [if_neg ho] at h ⊢
          by_cases ho2 : S (94 + f) ≤ 1
          · rw [if_pos ho2]; exact ⟨rfl, fun _ => ⟨fun z => (by cases z), fun _ _ => ⟨fun z => absurd z ho, fun z => absurd z (by omega)⟩⟩⟩
          · rw [if_neg ho2] at h ⊢
            obtain ⟨x1, x2⟩ := wantsA_fin WS' hw f0 f1 h
            exact ⟨x1, fun _ => ⟨fun z => (by cases z), fun _ _ => ⟨fun z => absurd z ho, fun _ => x2⟩⟩⟩
theorem com1_W {gg : Nat → Bool} (WS' : StW S) (hw : WsW w) (f0 : 0 ≤ f) (f1 : f < S 2) (q1 : q < 99) : WsW (com1 S gg r f q w) := by
  obtain ⟨K1, K2, -⟩ := WS'.key2 f0 f1
  have ky := WS'.key K1.1 K1.2
  unfold com1
  split
  · exact hw
  · rename_i hq
    split
    · split
      · exact hw
      · exact wantsA_W WS' hw f0 f1
    · split
      · exact hw
      · split
        · unfold chgW
          simp only
          have st1 : WsW (if isOth S w q (S (46 + S (82 + f))) = true then want1 w (4 * r + S (64 + f)) (w.1 (4 * q + S (46 + S (82 + f)))) else w) := by
            split
            · rename_i e
              exact want1_W hw (isOth_v hw (by omega) q1 ky.2.1.1 ky.2.1.2 e)
            · exact hw
          generalize (if isOth S w q (S (46 + S (82 + f))) = true then want1 w (4 * r + S (64 + f)) (w.1 (4 * q + S (46 + S (82 + f)))) else w) = ww at *
          split
          · rename_i e
            rw [Bool.and_eq_true] at e
            have n2 : ¬ S (52 + S (82 + f)) < 0 := by simpa using e.1
            exact want1_W st1 (isOth_v st1 (by omega) q1 (by omega) (by omega) e.2)
          · exact st1
        · split
          · exact hw
          · exact wantsA_W WS' hw f0 f1
theorem com1_P {gg : Nat → Bool} (WS' : StW S) (hw : WsW w) (r0 : 0 ≤ r) (r1 : r < 99) (f0 : 0 ≤ f) (f1 : f < S 2) (q1 : q < 99) : ph (com1 S gg r f q w) ≤ ph w := by
  obtain ⟨K1, K2, -⟩ := WS'.key2 f0 f1
  have ky := WS'.key K1.1 K1.2
  obtain ⟨a1, a2, a3, -⟩ := WS'.ref f0 f1
  unfold com1
  split
  · exact Nat.le_refl _
  · rename_i hq
    split
    · split
      · exact Nat.le_refl _
      · exact wantsA_P WS' r0 r1 f0 f1
    · split
      · exact Nat.le_refl _
      · split
        · unfold chgW
          simp only
          have st1 : WsW (if isOth S w q (S (46 + S (82 + f))) = true then want1 w (4 * r + S (64 + f)) (w.1 (4 * q + S (46 + S (82 + f)))) else w) ∧ ph (if isOth S w q (S (46 + S (82 + f))) = true then want1 w (4 * r + S (64 + f)) (w.1 (4 * q + S (46 + S (82 + f)))) else w) ≤ ph w := by
            split
            · rename_i e
              have v := isOth_v hw (by omega) q1 ky.2.1.1 ky.2.1.2 e
              exact ⟨want1_W hw v, want1_P (by omega) (by omega) (by omega)⟩
            · exact ⟨hw, Nat.le_refl _⟩
          generalize (if isOth S w q (S (46 + S (82 + f))) = true then want1 w (4 * r + S (64 + f)) (w.1 (4 * q + S (46 + S (82 + f)))) else w) = ww at *
          split
          · rename_i e
            rw [Bool.and_eq_true] at e
            have n2 : ¬ S (52 + S (82 + f)) < 0 := by simpa using e.1
            have n3 : ¬ S (70 + f) < 0 := fun z => n2 (K2.mpr z)
            have v := isOth_v st1.1 (by omega) q1 (by omega) (by omega) e.2
            exact Nat.le_trans (want1_P (by omega) (by omega) (by omega)) st1.2
          · exact st1.2
        · split
          · exact Nat.le_refl _
          · exact wantsA_P WS' r0 r1 f0 f1
end
