/-! a statement's line leaves what lies before it -/
section
variable {g : Int → Int} {z l q to : Int} {S nm L : Int → Int}
theorem val_lo {i : Int} {b : LQ} (h : valP g z l L i q = .ok b) : ∀ j, j ≠ i → b.1 j = L j := by
  unfold valP at h
  split at h
  · cases h; exact fun j hj => fset_ne hj
  · obtain ⟨a, -, h⟩ := eb_inv h
    cases h; exact fun j hj => fset_ne hj
theorem own_lo {b : LQ} (h : ownP g z l S nm L to q = .ok b) : (∀ i, i < to → b.1 i = L i) ∧ b.1 (to + 7) = 0 := by
  unfold ownP at h
  obtain ⟨a, -, h⟩ := eb_inv h
  cases h
  exact ⟨fun i hi => by show fset _ _ _ i = _; rw [fset_ne (by omega), fset_ne (by omega), fset_ne (by omega)], fset_eq⟩
theorem cond_lo : ∀ (n : Nat) (L : Int → Int) (q : Int) (b : LQ), 0 ≤ L (to + 7) → condF g z l S nm to n L q = .ok b → ∀ i, i < to → b.1 i = L i := by
  intro n
  induction n with
  | zero => intro L q b h0 h i hi; cases h; rfl
  | succ n ih =>
    intro L q b h0 h i hi
    unfold condF at h
    obtain ⟨a, -, h⟩ := eb_inv h
    split at h
    · cases h
    · split at h
      · obtain ⟨v, h1, h⟩ := eb_inv h
        have e := val_lo h1
        have e7 : v.1 (to + 7) = L (to + 7) := by rw [e _ (by omega), fset_ne (by omega), fset_ne (by omega)]
        have ei : v.1 i = L i := by rw [e _ (by omega), fset_ne (by omega), fset_ne (by omega)]
        split at h
        · rw [ih _ _ _ (by rw [fset_eq, e7]; omega) h i hi, fset_ne (by omega), ei]
        · cases h
          show fset v.1 (to + 7) (v.1 (to + 7) + 1) i = L i
          rw [fset_ne (by omega), ei]
      · cases h
theorem conds_lo {b : LQ} (h0 : 0 ≤ L (to + 7)) (h : condsP g z l S nm L to q = .ok b) : ∀ i, i < to → b.1 i = L i := by
  unfold condsP at h
  split at h
  · exact cond_lo 5 _ _ _ h0 h
  · cases h; exact fun i hi => rfl
theorem vals_lo : ∀ (n : Nat) (c : Int) (L : Int → Int) (q : Int) (b : LQ), 0 ≤ c → vals g z l to n c L q = .ok b → ∀ i, i < to → b.1 i = L i := by
  intro n
  induction n with
  | zero => intro c L q b h0 h i hi; cases h; rfl
  | succ n ih =>
    intro c L q b h0 h i hi
    unfold vals at h
    obtain ⟨v, h1, h⟩ := eb_inv h
    rw [ih (c + 1) _ _ _ (by omega) h i hi, val_lo h1 i (by omega)]
theorem stm_lo {b : LQ} (h : stmP g z l S nm L to q = .ok b) : ∀ i, i < to → b.1 i = L i := by
  intro i hi
  unfold stmP at h
  split at h
  · unfold insP at h
    obtain ⟨a, h1, h⟩ := eb_inv h
    rw [vals_lo _ _ _ _ _ (Int.le_refl _) h i hi, (own_lo h1).1 i hi, fset_ne (by omega)]
  · split at h
    · unfold delP at h
      obtain ⟨a, h1, h⟩ := eb_inv h
      obtain ⟨o1, o2⟩ := own_lo h1
      rw [conds_lo (by omega) h i hi, o1 i hi, fset_ne (by omega)]
    · split at h
      · unfold setP at h
        obtain ⟨a, h1, h⟩ := eb_inv h
        obtain ⟨o1, o2⟩ := own_lo h1
        obtain ⟨c, -, h⟩ := eb_inv h
        obtain ⟨v, h2, h⟩ := eb_inv h
        have e := val_lo h2
        have e7 : v.1 (to + 7) = 0 := by rw [e _ (by omega), fset_ne (by omega), o2]
        have ei : v.1 i = L i := by rw [e _ (by omega), fset_ne (by omega), o1 i hi, fset_ne (by omega)]
        split at h
        · obtain ⟨c2, -, h⟩ := eb_inv h
          split at h
          · cases h
          · obtain ⟨w, h3, h⟩ := eb_inv h
            have f := val_lo h3
            rw [conds_lo (by rw [fset_ne (by omega), f _ (by omega), fset_ne (by omega), fset_ne (by omega), e7]; omega) h i hi, fset_ne (by omega), f _ (by omega), fset_ne (by omega), fset_ne (by omega), ei]
        · rw [conds_lo (by rw [fset_ne (by omega), e7]; omega) h i hi, fset_ne (by omega), ei]
      · cases h
theorem bkP_lo {n : Int} {a : LQ} (h : bkP g z l S nm L n q = .ok a) : ∀ i, i < 20 * n → a.1 i = L i := by
  intro i hi
  unfold bkP at h
  have key : ∀ v : Int, (if n = 40 then (.error (erx g z l q 4) : Except Er LQ) else .ok (fset L (20 * n) v, nxt g z l q)) = .ok a → a.1 i = L i := fun v x => by
    by_cases c : n = 40
    · rw [if_pos c] at x; cases x
    · rw [if_neg c] at x; cases x
      exact fset_ne (by omega)
  split at h
  · exact key 3 h
  · split at h
    · exact key 4 h
    · split at h
      · exact key 5 h
      · split at h
        · split at h
          · cases h
          · exact stm_lo h i hi
        · cases h
end
