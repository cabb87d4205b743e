/-! a statement that is read is well made -/
section
variable {g : Int → Int} {z l : Int} {S nm : Int → Int} {to : Int}
theorem vals_at : ∀ (n : Nat) (c : Int) (L : Int → Int) (q : Int) {b : LQ}, vals g z l to n c L q = .ok b → (∀ j, j < to + 3 + c ∨ to + 3 + c + n ≤ j → b.1 j = L j) ∧ ∀ j, to + 3 + c ≤ j → j < to + 3 + c + n → -1 ≤ b.1 j ∧ b.1 j ≤ 99 := by
  intro n
  induction n with
  | zero => intro c L q b h; cases h; exact ⟨fun _ _ => rfl, fun j h1 h2 => by omega⟩
  | succ n ih =>
    intro c L q b h
    simp only [vals] at h
    obtain ⟨a, h1, h2⟩ := eb_inv h
    obtain ⟨v1, v2⟩ := val_at h1
    obtain ⟨i1, i2⟩ := ih (c + 1) _ _ h2
    refine ⟨fun j hj => by rw [i1 j (by omega), v1 j (by omega)], fun j h3 h4 => ?_⟩
    by_cases e : j = to + 3 + c
    · subst e; rw [i1 _ (by omega)]; exact v2
    · exact i2 j (by omega) (by omega)
theorem ins_W {L : Int → Int} {q : Int} {b : LQ} (W : ScW S) (h : insP g z l S nm L to q = .ok b) : LnW S b.1 to := by
  obtain ⟨a, h1, h2⟩ := eb_inv h
  obtain ⟨o1, o2, o3, o4⟩ := own_at h1
  have w0 := W.1
  have w1 := W.2 _ o2.1 (by omega)
  obtain ⟨v1, v2⟩ := vals_at _ _ _ _ h2
  have e0 : b.1 to = 0 := by rw [v1 _ (by omega), o1 _ (by omega) (by omega) (by omega), fset_eq]
  have e1 : b.1 (to + 1) = a.1 (to + 1) := v1 _ (by omega)
  refine ⟨by rw [e0]; decide, by rw [e1]; exact o2, fun _ => ⟨by rw [e1]; exact o2, fun k k0 k1 => ?_⟩, fun e => absurd e0 e⟩
  rw [e1] at k1
  exact v2 _ (by omega) (by omega)
end
