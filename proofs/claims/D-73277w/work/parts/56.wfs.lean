/-! schemas that are well made, and stay so -/
def KeyW (hs : Int → Int) (k : Int) : Prop := (0 ≤ hs (40 + k) ∧ hs (40 + k) < hs 0) ∧ (0 ≤ hs (46 + k) ∧ hs (46 + k) < hs (4 + hs (40 + k))) ∧ -1 ≤ hs (52 + k) ∧ hs (52 + k) < hs (4 + hs (40 + k)) ∧ hs (52 + k) ≠ hs (46 + k)
def RefW (hs : Int → Int) (f : Int) : Prop := (0 ≤ hs (58 + f) ∧ hs (58 + f) < hs 0) ∧ (0 ≤ hs (64 + f) ∧ hs (64 + f) < hs (4 + hs (58 + f))) ∧ (-1 ≤ hs (70 + f) ∧ hs (70 + f) < hs (4 + hs (58 + f)) ∧ hs (70 + f) ≠ hs (64 + f)) ∧ (0 ≤ hs (76 + f) ∧ hs (76 + f) < hs 0) ∧ (0 ≤ hs (82 + f) ∧ hs (82 + f) < hs 1 ∧ hs (40 + hs (82 + f)) = hs (76 + f) ∧ (hs (52 + hs (82 + f)) < 0 ↔ hs (70 + f) < 0)) ∧ (0 ≤ hs (88 + f) ∧ hs (88 + f) ≤ 3) ∧ (0 ≤ hs (94 + f) ∧ hs (94 + f) ≤ 3) ∧ (hs (100 + f) = 0 ∨ hs (100 + f) = 1) ∧ (hs (106 + f) = 0 ∨ hs (106 + f) = 1)
def ChkW (hs : Int → Int) (k : Int) : Prop := (0 ≤ hs (112 + k) ∧ hs (112 + k) < hs 0) ∧ (0 ≤ hs (118 + k) ∧ hs (118 + k) < hs (4 + hs (112 + k))) ∧ (60 ≤ hs (124 + k) ∧ hs (124 + k) ≤ 62) ∧ (-1 ≤ hs (136 + k) ∧ hs (136 + k) < hs (4 + hs (112 + k)) ∧ hs (136 + k) ≠ hs (118 + k)) ∧ 0 ≤ hs (130 + k) ∧ (hs (142 + k) = 0 ∨ hs (142 + k) = 1)
def HsW (hs : Int → Int) : Prop := HsB hs ∧ (∀ t, 0 ≤ t → t < hs 0 → 1 ≤ hs (4 + t)) ∧ (∀ k, 0 ≤ k → k < hs 1 → KeyW hs k) ∧ (∀ f, 0 ≤ f → f < hs 2 → RefW hs f) ∧ (∀ k, 0 ≤ k → k < hs 3 → ChkW hs k) ∧ (∀ i, 24 ≤ i → i < 40 → hs i = 0 ∨ hs i = 1) ∧ ∀ i, 130 ≤ i → i < 136 → 0 ≤ hs i
section
variable {hs hs' : Int → Int}
theorem KeyW.mv {k : Int} (W : KeyW hs k) (h0 : hs 0 ≤ hs' 0) (ht : ∀ t, 0 ≤ t → t < hs 0 → hs' (4 + t) = hs (4 + t)) (e1 : hs' (40 + k) = hs (40 + k)) (e2 : hs' (46 + k) = hs (46 + k)) (e3 : hs' (52 + k) = hs (52 + k)) : KeyW hs' k := by
  obtain ⟨⟨a1, a2⟩, a3, a4⟩ := W
  unfold KeyW
  rw [e1, e2, e3, ht _ a1 a2]
  exact ⟨⟨a1, by omega⟩, a3, a4⟩
theorem RefW.mv {f : Int} (W : RefW hs f) (h0 : hs 0 ≤ hs' 0) (h1 : hs 1 ≤ hs' 1) (ht : ∀ t, 0 ≤ t → t < hs 0 → hs' (4 + t) = hs (4 + t)) (hk : ∀ k, 0 ≤ k → k < hs 1 → hs' (40 + k) = hs (40 + k) ∧ hs' (52 + k) = hs (52 + k))
    (e1 : hs' (58 + f) = hs (58 + f)) (e2 : hs' (64 + f) = hs (64 + f)) (e3 : hs' (70 + f) = hs (70 + f)) (e4 : hs' (76 + f) = hs (76 + f)) (e5 : hs' (82 + f) = hs (82 + f)) (e6 : hs' (88 + f) = hs (88 + f)) (e7 : hs' (94 + f) = hs (94 + f)) (e8 : hs' (100 + f) = hs (100 + f)) (e9 : hs' (106 + f) = hs (106 + f)) : RefW hs' f := by
  obtain ⟨⟨a1, a2⟩, a3, a4, ⟨a5, a6⟩, ⟨a7, a8, a9⟩, a10⟩ := W
  obtain ⟨k1, k2⟩ := hk _ a7 a8
  unfold RefW
  rw [e1, e2, e3, e4, e5, e6, e7, e8, e9, ht _ a1 a2, k1, k2]
  exact ⟨⟨a1, by omega⟩, a3, a4, ⟨a5, by omega⟩, ⟨a7, by omega, a9⟩, a10⟩
theorem ChkW.mv {k : Int} (W : ChkW hs k) (h0 : hs 0 ≤ hs' 0) (ht : ∀ t, 0 ≤ t → t < hs 0 → hs' (4 + t) = hs (4 + t)) (e1 : hs' (112 + k) = hs (112 + k)) (e2 : hs' (118 + k) = hs (118 + k)) (e3 : hs' (124 + k) = hs (124 + k)) (e4 : hs' (136 + k) = hs (136 + k)) (e5 : hs' (130 + k) = hs (130 + k)) (e6 : hs' (142 + k) = hs (142 + k)) : ChkW hs' k := by
  obtain ⟨⟨a1, a2⟩, a3, a4⟩ := W
  unfold ChkW
  rw [e1, e2, e3, e4, e5, e6, ht _ a1 a2]
  exact ⟨⟨a1, by omega⟩, a3, a4⟩
end
section
variable {g : Int → Int} {z l : Int} {q : Int}
theorem look_rg {nm : Int → Int} {n : Nat} {a : Int} (h : lookP g z l nm n q = .ok a) : 0 ≤ a ∧ a < n := by
  unfold lookP at h
  split at h
  · cases h
  · split at h
    · cases h
    · cases h
      have := fnd_rg (f := fun k => decide (nm k = wdv g z q)) n 0
      omega
theorem tab_rg {hs nm : Int → Int} {a : Int} (hB : HsB hs) (h : tabP g z l hs nm q = .ok a) : 0 ≤ a ∧ a < hs 0 := by
  have := look_rg h
  have := hB.2.1
  omega
theorem col_rg {hs nm : Int → Int} {t a : Int} (hB : HsB hs) (t0 : 0 ≤ t) (t1 : t < 4) (h : colP g z l hs nm t q = .ok a) : 0 ≤ a ∧ a < hs (4 + t) := by
  have := look_rg h
  have := hB.2.2.1 t t0 t1
  omega
theorem eb_inv {α β : Type} {r : Except Er α} {f : α → Except Er β} {b : β} (h : eb r f = .ok b) : ∃ a, r = .ok a ∧ f a = .ok b := by
  cases r with
  | error e => cases h
  | ok a => exact ⟨a, rfl, h⟩
theorem cols_rg {hs nm : Int → Int} {t : Int} {c : Int × Int × Int} (hB : HsB hs) (t0 : 0 ≤ t) (t1 : t < 4) (h : colsP g z l hs nm t q = .ok c) : (0 ≤ c.1 ∧ c.1 < hs (4 + t)) ∧ (-1 ≤ c.2.1 ∧ c.2.1 < hs (4 + t)) ∧ c.2.1 ≠ c.1 := by
  unfold colsP at h
  obtain ⟨a, h1, h⟩ := eb_inv h
  have r1 := col_rg hB t0 t1 h1
  split at h
  · obtain ⟨b, h2, h⟩ := eb_inv h
    have r2 := col_rg hB t0 t1 h2
    split at h
    · cases h
    · cases h
      exact ⟨r1, ⟨by show -1 ≤ b; omega, r2.2⟩, by assumption⟩
  · cases h
    exact ⟨r1, ⟨by show (-1 : Int) ≤ -1; omega, by show -1 < _; omega⟩, by show (-1 : Int) ≠ a; omega⟩
theorem nxt_ge (q : Int) : q ≤ nxt g z l q := by
  have b := sk_le_self (g := g) (z := z) (p := q)
  have e := en_ge (g := g) (z := z) (p := sk g z q)
  unfold nxt
  split
  · exact b
  · split
    · exact b
    · split <;> omega
theorem may_ge (q w : Int) : q ≤ may g z l q w := by
  unfold may; split
  · exact nxt_ge q
  · exact Int.le_refl q
theorem cols_ge {hs nm : Int → Int} {t : Int} {c : Int × Int × Int} (h : colsP g z l hs nm t q = .ok c) : q ≤ c.2.2 := by
  unfold colsP at h
  have n1 := nxt_ge (g := g) (z := z) (l := l) q
  have n2 := nxt_ge (g := g) (z := z) (l := l) (nxt g z l q)
  obtain ⟨a, h1, h⟩ := eb_inv h
  split at h
  · obtain ⟨b, h2, h⟩ := eb_inv h
    split at h
    · cases h
    · cases h; show q ≤ nxt g z l (nxt g z l q); omega
  · cases h; exact n1
/-- what a line makes of a schema that is well made -/
def LineOk (hs : Int → Int) (q : Int) (a : (Int → Int) × (Int → Int) × Int) : Prop := HsW a.1 ∧ q ≤ a.2.2
theorem key_W {hs nm : Int → Int} {a : (Int → Int) × (Int → Int) × Int} (W : HsW hs) (h6 : hs 1 < 6) (h : keyP g z l hs nm q = .ok a) : LineOk hs q a := by
  obtain ⟨hB, W1, W2, W3, W4, W5, W6⟩ := W
  obtain ⟨b1, b2, b3, b4, b5, b6⟩ := id hB
  unfold keyP at h
  obtain ⟨t, h1, h⟩ := eb_inv h
  obtain ⟨c, h2, h⟩ := eb_inv h
  have r1 := tab_rg hB h1
  have r2 := cols_rg hB r1.1 (by omega) h2
  have g1 := cols_ge h2
  have n1 := nxt_ge (g := g) (z := z) (l := l) q
  have n2 := nxt_ge (g := g) (z := z) (l := l) (nxt g z l q)
  have c4 := b3 t r1.1 (by omega)
  cases h
  have e : ∀ i, i ≠ 1 → i ≠ 40 + hs 1 → i ≠ 46 + hs 1 → i ≠ 52 + hs 1 → fset (fset (fset (fset hs (40 + hs 1) t) (46 + hs 1) c.1) (52 + hs 1) c.2.1) 1 (hs 1 + 1) i = hs i := fun i i1 i2 i3 i4 => by rw [fset_ne i1, fset_ne i4, fset_ne i3, fset_ne i2]
  have e1 : fset (fset (fset (fset hs (40 + hs 1) t) (46 + hs 1) c.1) (52 + hs 1) c.2.1) 1 (hs 1 + 1) 1 = hs 1 + 1 := fset_eq
  have e2 : fset (fset (fset (fset hs (40 + hs 1) t) (46 + hs 1) c.1) (52 + hs 1) c.2.1) 1 (hs 1 + 1) (40 + hs 1) = t := by simp (disch := omega) only [fset_eq, fset_ne]
  have e3 : fset (fset (fset (fset hs (40 + hs 1) t) (46 + hs 1) c.1) (52 + hs 1) c.2.1) 1 (hs 1 + 1) (46 + hs 1) = c.1 := by simp (disch := omega) only [fset_eq, fset_ne]
  have e4 : fset (fset (fset (fset hs (40 + hs 1) t) (46 + hs 1) c.1) (52 + hs 1) c.2.1) 1 (hs 1 + 1) (52 + hs 1) = c.2.1 := by simp (disch := omega) only [fset_eq, fset_ne]
  refine ⟨?_, by show q ≤ c.2.2; omega⟩
  show HsW (fset (fset (fset (fset hs (40 + hs 1) t) (46 + hs 1) c.1) (52 + hs 1) c.2.1) 1 (hs 1 + 1))
  generalize fset (fset (fset (fset hs (40 + hs 1) t) (46 + hs 1) c.1) (52 + hs 1) c.2.1) 1 (hs 1 + 1) = hs' at e e1 e2 e3 e4 ⊢
  have e0 : hs' 0 = hs 0 := e 0 (by decide) (by omega) (by omega) (by omega)
  have eR : hs' 2 = hs 2 := e 2 (by decide) (by omega) (by omega) (by omega)
  have eC : hs' 3 = hs 3 := e 3 (by decide) (by omega) (by omega) (by omega)
  have et : ∀ t, 0 ≤ t → t < 4 → hs' (4 + t) = hs (4 + t) := fun t t0 t1 => e _ (by omega) (by omega) (by omega) (by omega)
  refine ⟨⟨fun i ii0 ii1 => ?_, by rw [e0]; exact b2, fun t t0 t1 => by rw [et t t0 t1]; exact b3 t t0 t1, by rw [e1]; omega, by rw [eR]; exact b5, by rw [eC]; exact b6⟩, fun t t0 t1 => ?_, fun k k0 k1 => ?_, fun f f0 f1 => ?_, fun k k0 k1 => ?_, fun i i0 i1 => ?_, fun i i0 i1 => ?_⟩
  · by_cases i1 : i = 1
    · rw [i1, e1]; omega
    · by_cases i2 : i = 40 + hs 1
      · rw [i2, e2]; omega
      · by_cases i3 : i = 46 + hs 1
        · rw [i3, e3]; omega
        · by_cases i4 : i = 52 + hs 1
          · rw [i4, e4]; omega
          · rw [e i i1 i2 i3 i4]; exact b1 i ii0 ii1
  · rw [et t t0 (by omega)]; exact W1 t t0 (by omega)
  · by_cases hk : k = hs 1
    · subst hk
      unfold KeyW
      rw [e2, e3, e4, e0, et t r1.1 (by omega)]
      exact ⟨r1, r2.1, r2.2.1.1, r2.2.1.2, r2.2.2⟩
    · refine (W2 k k0 (by omega)).mv (by omega) (fun t t0 t1 => et t t0 (by omega)) ?_ ?_ ?_ <;> exact e _ (by omega) (by omega) (by omega) (by omega)
  · refine (W3 f f0 (by omega)).mv (by omega) (by omega) (fun t t0 t1 => et t t0 (by omega)) (fun k k0 k1 => ⟨e _ (by omega) (by omega) (by omega) (by omega), e _ (by omega) (by omega) (by omega) (by omega)⟩) ?_ ?_ ?_ ?_ ?_ ?_ ?_ ?_ ?_ <;> exact e _ (by omega) (by omega) (by omega) (by omega)
  · refine (W4 k k0 (by omega)).mv (by omega) (fun t t0 t1 => et t t0 (by omega)) ?_ ?_ ?_ ?_ ?_ ?_ <;> exact e _ (by omega) (by omega) (by omega) (by omega)
  · rw [e i (by omega) (by omega) (by omega) (by omega)]; exact W5 i i0 i1
  · rw [e i (by omega) (by omega) (by omega) (by omega)]; exact W6 i i0 i1
theorem def_W {hs nm : Int → Int} {a : (Int → Int) × (Int → Int) × Int} (W : HsW hs) (h : defP g z l hs nm q = .ok a) : LineOk hs q a := by
  obtain ⟨hB, W1, W2, W3, W4, W5, W6⟩ := W
  obtain ⟨b1, b2, b3, b4, b5, b6⟩ := id hB
  unfold defP at h
  obtain ⟨t, h1, h⟩ := eb_inv h
  obtain ⟨c, h2, h⟩ := eb_inv h
  split at h
  · cases h
  obtain ⟨v, h3, h⟩ := eb_inv h
  have r1 := tab_rg hB h1
  have r2 := col_rg hB r1.1 (by omega) h2
  have n1 := nxt_ge (g := g) (z := z) (l := l) q
  have n2 := nxt_ge (g := g) (z := z) (l := l) (nxt g z l q)
  have n3 := nxt_ge (g := g) (z := z) (l := l) (nxt g z l (nxt g z l q))
  have n4 := nxt_ge (g := g) (z := z) (l := l) (nxt g z l (nxt g z l (nxt g z l q)))
  have c4 := b3 t r1.1 (by omega)
  have rv : 0 ≤ v ∧ v ≤ 99 := by
    unfold numP at h3
    split at h3
    · cases h3
    · split at h3
      · cases h3
      · rename_i hh
        cases h3
        simpa [isInZ] using hh
  cases h
  have e : ∀ i, i ≠ 8 + 4 * t + c → fset hs (8 + 4 * t + c) v i = hs i := fun i i1 => fset_ne i1
  have e1 : fset hs (8 + 4 * t + c) v (8 + 4 * t + c) = v := fset_eq
  refine ⟨?_, by show q ≤ nxt g z l (nxt g z l (nxt g z l (nxt g z l q))); omega⟩
  show HsW (fset hs (8 + 4 * t + c) v)
  generalize fset hs (8 + 4 * t + c) v = hs' at e e1 ⊢
  have et : ∀ t, 0 ≤ t → t < 4 → hs' (4 + t) = hs (4 + t) := fun t t0 t1 => e _ (by omega)
  refine ⟨⟨fun i ii0 ii1 => ?_, by rw [e 0 (by omega)]; exact b2, fun t t0 t1 => by rw [et t t0 t1]; exact b3 t t0 t1, by rw [e 1 (by omega)]; exact b4, by rw [e 2 (by omega)]; exact b5, by rw [e 3 (by omega)]; exact b6⟩, fun t t0 t1 => ?_, fun k k0 k1 => ?_, fun f f0 f1 => ?_, fun k k0 k1 => ?_, fun i i0 i1 => ?_, fun i i0 i1 => ?_⟩
  · by_cases i1 : i = 8 + 4 * t + c
    · rw [i1, e1]; omega
    · rw [e i i1]; exact b1 i ii0 ii1
  · rw [e 0 (by omega)] at t1; rw [et t t0 (by omega)]; exact W1 t t0 (by omega)
  · rw [e 1 (by omega)] at k1
    refine (W2 k k0 k1).mv (by rw [e 0 (by omega)]; omega) (fun t t0 t1 => et t t0 (by omega)) ?_ ?_ ?_ <;> exact e _ (by omega)
  · rw [e 2 (by omega)] at f1
    refine (W3 f f0 f1).mv (by rw [e 0 (by omega)]; omega) (by rw [e 1 (by omega)]; omega) (fun t t0 t1 => et t t0 (by omega)) (fun k k0 k1 => ⟨e _ (by omega), e _ (by omega)⟩) ?_ ?_ ?_ ?_ ?_ ?_ ?_ ?_ ?_ <;> exact e _ (by omega)
  · rw [e 3 (by omega)] at k1
    refine (W4 k k0 k1).mv (by rw [e 0 (by omega)]; omega) (fun t t0 t1 => et t t0 (by omega)) ?_ ?_ ?_ ?_ ?_ ?_ <;> exact e _ (by omega)
  · rw [e i (by omega)]; exact W5 i i0 i1
  · rw [e i (by omega)]; exact W6 i i0 i1
theorem need_W {hs nm : Int → Int} {a : (Int → Int) × (Int → Int) × Int} (W : HsW hs) (h : needP g z l hs nm q = .ok a) : LineOk hs q a := by
  obtain ⟨hB, W1, W2, W3, W4, W5, W6⟩ := W
  obtain ⟨b1, b2, b3, b4, b5, b6⟩ := id hB
  unfold needP at h
  obtain ⟨t, h1, h⟩ := eb_inv h
  obtain ⟨c, h2, h⟩ := eb_inv h
  split at h
  · cases h
  have r1 := tab_rg hB h1
  have r2 := col_rg hB r1.1 (by omega) h2
  have n1 := nxt_ge (g := g) (z := z) (l := l) q
  have n2 := nxt_ge (g := g) (z := z) (l := l) (nxt g z l q)
  have n3 := nxt_ge (g := g) (z := z) (l := l) (nxt g z l (nxt g z l q))
  have c4 := b3 t r1.1 (by omega)
  cases h
  have e : ∀ i, i ≠ 24 + 4 * t + c → fset hs (24 + 4 * t + c) 1 i = hs i := fun i i1 => fset_ne i1
  have e1 : fset hs (24 + 4 * t + c) 1 (24 + 4 * t + c) = 1 := fset_eq
  refine ⟨?_, by show q ≤ nxt g z l (nxt g z l (nxt g z l q)); omega⟩
  show HsW (fset hs (24 + 4 * t + c) 1)
  generalize fset hs (24 + 4 * t + c) 1 = hs' at e e1 ⊢
  have et : ∀ t, 0 ≤ t → t < 4 → hs' (4 + t) = hs (4 + t) := fun t t0 t1 => e _ (by omega)
  refine ⟨⟨fun i ii0 ii1 => ?_, by rw [e 0 (by omega)]; exact b2, fun t t0 t1 => by rw [et t t0 t1]; exact b3 t t0 t1, by rw [e 1 (by omega)]; exact b4, by rw [e 2 (by omega)]; exact b5, by rw [e 3 (by omega)]; exact b6⟩, fun t t0 t1 => ?_, fun k k0 k1 => ?_, fun f f0 f1 => ?_, fun k k0 k1 => ?_, fun i i0 i1 => ?_, fun i i0 i1 => ?_⟩
  · by_cases i1 : i = 24 + 4 * t + c
    · rw [i1, e1]; omega
    · rw [e i i1]; exact b1 i ii0 ii1
  · rw [e 0 (by omega)] at t1; rw [et t t0 (by omega)]; exact W1 t t0 (by omega)
  · rw [e 1 (by omega)] at k1
    refine (W2 k k0 k1).mv (by rw [e 0 (by omega)]; omega) (fun t t0 t1 => et t t0 (by omega)) ?_ ?_ ?_ <;> exact e _ (by omega)
  · rw [e 2 (by omega)] at f1
    refine (W3 f f0 f1).mv (by rw [e 0 (by omega)]; omega) (by rw [e 1 (by omega)]; omega) (fun t t0 t1 => et t t0 (by omega)) (fun k k0 k1 => ⟨e _ (by omega), e _ (by omega)⟩) ?_ ?_ ?_ ?_ ?_ ?_ ?_ ?_ ?_ <;> exact e _ (by omega)
  · rw [e 3 (by omega)] at k1
    refine (W4 k k0 k1).mv (by rw [e 0 (by omega)]; omega) (fun t t0 t1 => et t t0 (by omega)) ?_ ?_ ?_ ?_ ?_ ?_ <;> exact e _ (by omega)
  · by_cases i2 : i = 24 + 4 * t + c
    · rw [i2, e1]; exact Or.inr rfl
    · rw [e i i2]; exact W5 i i0 i1
  · rw [e i (by omega)]; exact W6 i i0 i1
end
