/-! sets that are read are well made; statements -/
section
variable {g : Int → Int} {z l : Int} {S nm : Int → Int} {to : Int}
theorem lookC_rg {t q a : Int} (h : lookC g z l S nm t q = .ok a) : 0 ≤ a ∧ a < S (4 + t) := by
  unfold lookC at h; exact lookP_rg h
theorem set_W {L : Int → Int} {q : Int} {b : LQ} (h : setP g z l S nm L to q = .ok b) : LnW S b.1 to := by
  obtain ⟨a, h1, h⟩ := eb_inv h
  obtain ⟨o1, o2, o3, o4⟩ := own_at h1
  obtain ⟨c, h2, h⟩ := eb_inv h
  have hc := lookC_rg h2
  obtain ⟨v, h3, h⟩ := eb_inv h
  obtain ⟨v1, v2⟩ := val_at h3
  have a0 : a.1 to = 2 := by rw [o1 _ (by omega) (by omega) (by omega), fset_eq]
  have f0 : v.1 to = 2 := by rw [v1 _ (by omega), fset_ne (by omega), a0]
  have f1 : v.1 (to + 1) = a.1 (to + 1) := by rw [v1 _ (by omega), fset_ne (by omega)]
  have f3 : v.1 (to + 3) = c := by rw [v1 _ (by omega), fset_eq]
  have f7 : v.1 (to + 7) = 0 := by rw [v1 _ (by omega), fset_ne (by omega), o4]
  split at h
  · obtain ⟨c2, h4, h⟩ := eb_inv h
    have hc2 := lookC_rg h4
    split at h
    · cases h
    · obtain ⟨e, h5, h⟩ := eb_inv h
      obtain ⟨x1, x2⟩ := val_at h5
      have g0 : e.1 to = 2 := by rw [x1 _ (by omega), fset_ne (by omega), fset_ne (by omega), f0]
      have g1 : e.1 (to + 1) = a.1 (to + 1) := by rw [x1 _ (by omega), fset_ne (by omega), fset_ne (by omega), f1]
      have g3 : e.1 (to + 3) = c := by rw [x1 _ (by omega), fset_ne (by omega), fset_ne (by omega), f3]
      have g4 : e.1 (to + 4) = v.1 (to + 4) := by rw [x1 _ (by omega), fset_ne (by omega), fset_ne (by omega)]
      have g5 : e.1 (to + 5) = c2 := by rw [x1 _ (by omega), fset_eq]
      have g7 : e.1 (to + 7) = 0 := by rw [x1 _ (by omega), fset_ne (by omega), fset_ne (by omega), f7]
      obtain ⟨w1, w2⟩ := conds_W (CnW_0 (by rw [fset_ne (by omega)]; exact g7)) h
      have b0 : b.1 to = 2 := by rw [w2 _ (by omega), fset_ne (by omega), g0]
      have b1 : b.1 (to + 1) = a.1 (to + 1) := by rw [w2 _ (by omega), fset_ne (by omega), g1]
      have b2 : b.1 (to + 2) = 2 := by rw [w2 _ (by omega), fset_eq]
      have b3 : b.1 (to + 3) = c := by rw [w2 _ (by omega), fset_ne (by omega), g3]
      have b4 : b.1 (to + 4) = v.1 (to + 4) := by rw [w2 _ (by omega), fset_ne (by omega), g4]
      have b5 : b.1 (to + 5) = c2 := by rw [w2 _ (by omega), fset_ne (by omega), g5]
      have b6 : b.1 (to + 6) = e.1 (to + 6) := by rw [w2 _ (by omega), fset_ne (by omega)]
      refine ⟨by rw [b0]; decide, by rw [b1]; exact o2, fun q => by omega, fun _ => ⟨w1, by omega, fun k k0 k1 => ?_⟩⟩
      rw [b1]
      rcases (show k = 0 ∨ k = 1 by omega) with rfl | rfl
      · rw [show to + 3 + 2 * 0 = to + 3 by omega, show to + 4 + 2 * 0 = to + 4 by omega, b3, b4]; exact ⟨hc, v2⟩
      · rw [show to + 3 + 2 * 1 = to + 5 by omega, show to + 4 + 2 * 1 = to + 6 by omega, b5, b6]; exact ⟨hc2, x2⟩
  · obtain ⟨w1, w2⟩ := conds_W (CnW_0 (by rw [fset_ne (by omega)]; exact f7)) h
    have b0 : b.1 to = 2 := by rw [w2 _ (by omega), fset_ne (by omega), f0]
    have b1 : b.1 (to + 1) = a.1 (to + 1) := by rw [w2 _ (by omega), fset_ne (by omega), f1]
    have b2 : b.1 (to + 2) = 1 := by rw [w2 _ (by omega), fset_eq]
    have b3 : b.1 (to + 3) = c := by rw [w2 _ (by omega), fset_ne (by omega), f3]
    have b4 : b.1 (to + 4) = v.1 (to + 4) := by rw [w2 _ (by omega), fset_ne (by omega)]
    refine ⟨by rw [b0]; decide, by rw [b1]; exact o2, fun q => by omega, fun _ => ⟨w1, by omega, fun k k0 k1 => ?_⟩⟩
    rw [b1]
    obtain rfl : k = 0 := by omega
    rw [show to + 3 + 2 * 0 = to + 3 by omega, show to + 4 + 2 * 0 = to + 4 by omega, b3, b4]
    exact ⟨hc, v2⟩
theorem stm_W {L : Int → Int} {q : Int} {b : LQ} (W : ScW S) (h : stmP g z l S nm L to q = .ok b) : LnW S b.1 to := by
  unfold stmP at h
  split at h
  · exact ins_W W h
  · split at h
    · exact del_W h
    · split at h
      · exact set_W h
      · cases h
theorem one_W {L L' : Int → Int} (W : ScW S) (h : oneP g z l S nm L = .ok L') : LnW S L' 0 := by
  obtain ⟨a, h1, h2⟩ := eb_inv h
  split at h2
  · cases h2; exact stm_W W h1
  · cases h2
end
