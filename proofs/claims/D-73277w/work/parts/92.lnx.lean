/-! deletes that are read are well made -/
section
variable {g : Int → Int} {z l : Int} {S nm : Int → Int} {to : Int}
theorem CnW_0 {L : Int → Int} (h : L (to + 7) = 0) : CnW S L to := ⟨by omega, fun k k0 k1 => by omega⟩
theorem conds_W {L : Int → Int} {q : Int} {b : LQ} (hw : CnW S L to) (h : condsP g z l S nm L to q = .ok b) : CnW S b.1 to ∧ ∀ j, j < to + 7 → b.1 j = L j := by
  unfold condsP at h
  split at h
  · exact cond_W 5 L q hw h
  · cases h; exact ⟨hw, fun _ _ => rfl⟩
theorem del_W {L : Int → Int} {q : Int} {b : LQ} (h : delP g z l S nm L to q = .ok b) : LnW S b.1 to := by
  obtain ⟨a, h1, h2⟩ := eb_inv h
  obtain ⟨o1, o2, o3, o4⟩ := own_at h1
  obtain ⟨c1, c2⟩ := conds_W (CnW_0 o4) h2
  have e0 : b.1 to = 1 := by rw [c2 _ (by omega), o1 _ (by omega) (by omega) (by omega), fset_eq]
  have e1 : b.1 (to + 1) = a.1 (to + 1) := c2 _ (by omega)
  have e3 : b.1 (to + 2) = 0 := by rw [c2 _ (by omega), o3]
  exact ⟨by rw [e0]; decide, by rw [e1]; exact o2, fun e => by omega, fun _ => ⟨c1, by omega, fun k k0 k1 => by omega⟩⟩
end
