/-! sort: two runs become one (from the right), without program -/
/-- what is left of one run [B, B + n1) in f and of the other [0, n2) in t; the rest is laid -/
def MJ (G : Nat → Option Cl) (rk : Value → Int) (f0 : Nat → Value) (B E : Nat) (f t : Nat → Value) (n1 n2 : Nat) : Prop :=
  (B + n1 + n2 ≤ E ∧ 1 ≤ n2) ∧
  ((sg f B n1 ++ (sg t 0 n2 ++ sg f (B + n1 + n2) (E - (B + n1 + n2)))).Perm (sg f0 B (E - B))) ∧
  (∀ i, i < B ∨ E ≤ i → f i = f0 i) ∧
  SrtA rk f B n1 ∧ SrtA rk t 0 n2 ∧ SrtA rk f (B + n1 + n2) (E - (B + n1 + n2)) ∧
  (∀ i k, B ≤ i → i < B + n1 → B + n1 + n2 ≤ k → k < E → rk (f i) ≤ rk (f k)) ∧
  (∀ i k, i < n2 → B + n1 + n2 ≤ k → k < E → rk (t i) ≤ rk (f k)) ∧
  (∀ k, B ≤ k → k < B + n1 → rk (t 0) < rk (f k)) ∧
  OkA G rk t 0 n2 ∧ OkA G rk f B n1
section
variable {G : Nat → Option Cl} {rk : Value → Int} {f0 f f2 t : Nat → Value} {B E n1 n2 k : Nat}
theorem MJ.ok1 (h : MJ G rk f0 B E f t n1 n2) : OkA G rk f B n1 := h.2.2.2.2.2.2.2.2.2.2
theorem MJ.ok2 (h : MJ G rk f0 B E f t n1 n2) : OkA G rk t 0 n2 := h.2.2.2.2.2.2.2.2.2.1
theorem MJ.mvT (h : MJ G rk f0 B E f t n1 n2) (hk : k < n2) (hle : k = 0 ∨ ∀ i, B ≤ i → i < B + n1 → rk (f i) ≤ rk (t (n2 - k))) (g1 : ∀ i, B + n1 + n2 - k ≤ i → i < B + n1 + n2 → f2 i = t (i - (B + n1))) (g2 : ∀ i, i < B + n1 + n2 - k ∨ B + n1 + n2 ≤ i → f2 i = f i) : MJ G rk f0 B E f2 t n1 (n2 - k) := by
  obtain ⟨⟨a1, a2⟩, p, o, s1, s2, s3, l1, l2, l3, ok1, ok2⟩ := h
  have eD : B + n1 + (n2 - k) = B + n1 + n2 - k := by omega
  refine ⟨⟨by omega, by omega⟩, ?_, fun i hi => ?_, fun x y hx hxy hy => ?_, fun x y hx hxy hy => s2 x y hx hxy (by omega), fun x y hx hxy hy => ?_, fun x y hx hx2 hy hy2 => ?_, fun x y hx hy hy2 => ?_, fun x hx hx2 => ?_, fun x hx hx2 => ok1 x hx (by omega), fun x hx hx2 => ?_⟩
  · have e1 : sg f2 B n1 = sg f B n1 := sg_cg n1 B fun i a b => g2 i (by omega)
    have e2 : sg f2 (B + n1 + (n2 - k)) (E - (B + n1 + (n2 - k))) = sg t (n2 - k) k ++ sg f (B + n1 + n2) (E - (B + n1 + n2)) := by
      rw [show E - (B + n1 + (n2 - k)) = k + (E - (B + n1 + n2)) by omega, sg_add, show B + n1 + (n2 - k) + k = B + n1 + n2 by omega]
      congr 1
      · have : sg t (n2 - k) k = sg f2 (n2 - k + (B + n1)) k := sg_sh k (n2 - k) fun i a b => by
          rw [g1 (i + (B + n1)) (by omega) (by omega)]; congr 1; omega
        rw [this, show n2 - k + (B + n1) = B + n1 + (n2 - k) by omega]
      · exact sg_cg _ _ fun i a b => g2 i (by omega)
    have e3 : sg t 0 n2 = sg t 0 (n2 - k) ++ sg t (n2 - k) k := by
      have := sg_add (f := t) (n := k) (n2 - k) 0
      rw [show n2 - k + k = n2 by omega, Nat.zero_add] at this
      exact this
    rw [e1, e2]
    rw [e3] at p
    simpa only [List.append_assoc] using p
  · rw [g2 i (by omega)]; exact o i hi
  · rw [g2 x (by omega), g2 y (by omega)]; exact s1 x y hx hxy hy
  · by_cases hyD : y < B + n1 + n2
    · rw [g1 y (by omega) hyD, g1 x (by omega) (by omega)]; exact s2 _ _ (Nat.zero_le _) (by omega) (by omega)
    · rw [g2 y (by omega)]
      by_cases hxD : x < B + n1 + n2
      · rw [g1 x (by omega) hxD]; exact l2 _ y (by omega) (by omega) (by omega)
      · rw [g2 x (by omega)]; exact s3 x y (by omega) hxy (by omega)
  · rw [g2 x (by omega)]
    by_cases hyD : y < B + n1 + n2
    · rw [g1 y (by omega) hyD]
      rcases hle with hle | hle
      · omega
      · exact Int.le_trans (hle x hx hx2) (s2 _ _ (Nat.zero_le _) (by omega) (by omega))
    · rw [g2 y (by omega)]; exact l1 x y hx hx2 (by omega) hy2
  · by_cases hyD : y < B + n1 + n2
    · rw [g1 y (by omega) hyD]; exact s2 _ _ (Nat.zero_le _) (by omega) (by omega)
    · rw [g2 y (by omega)]; exact l2 x y (by omega) (by omega) hy2
  · rw [g2 x (by omega)]; exact l3 x hx hx2
  · rw [g2 x (by omega)]; exact ok2 x hx hx2
theorem MJ.mvF (h : MJ G rk f0 B E f t n1 n2) (hk : k ≤ n1) (hle : ∀ i, B + n1 - k ≤ i → i < B + n1 → rk (t (n2 - 1)) ≤ rk (f i)) (g1 : ∀ i, B + n1 + n2 - k ≤ i → i < B + n1 + n2 → f2 i = f (i - n2)) (g2 : ∀ i, i < B + n1 + n2 - k ∨ B + n1 + n2 ≤ i → f2 i = f i) : MJ G rk f0 B E f2 t (n1 - k) n2 := by
  obtain ⟨⟨a1, a2⟩, p, o, s1, s2, s3, l1, l2, l3, ok1, ok2⟩ := h
  refine ⟨⟨by omega, a2⟩, ?_, fun i hi => ?_, fun x y hx hxy hy => ?_, s2, fun x y hx hxy hy => ?_, fun x y hx hx2 hy hy2 => ?_, fun x y hx hy hy2 => ?_, fun x hx hx2 => ?_, ok1, fun x hx hx2 => ?_⟩
  · have e1 : sg f2 B (n1 - k) = sg f B (n1 - k) := sg_cg _ B fun i a b => g2 i (by omega)
    have e2 : sg f2 (B + (n1 - k) + n2) (E - (B + (n1 - k) + n2)) = sg f (B + (n1 - k)) k ++ sg f (B + n1 + n2) (E - (B + n1 + n2)) := by
      rw [show E - (B + (n1 - k) + n2) = k + (E - (B + n1 + n2)) by omega, sg_add, show B + (n1 - k) + n2 + k = B + n1 + n2 by omega]
      congr 1
      · exact (sg_sh k (B + (n1 - k)) fun i a b => by
          rw [g1 (i + n2) (by omega) (by omega)]; congr 1; omega).symm
      · exact sg_cg _ _ fun i a b => g2 i (by omega)
    have e3 : sg f B n1 = sg f B (n1 - k) ++ sg f (B + (n1 - k)) k := by
      rw [← sg_add, show n1 - k + k = n1 by omega]
    rw [e1, e2]
    rw [e3] at p
    refine List.Perm.trans ?_ p
    rw [List.append_assoc]
    refine List.Perm.append_left _ ?_
    rw [← List.append_assoc, ← List.append_assoc]
    exact List.Perm.append_right _ List.perm_append_comm
  · rw [g2 i (by omega)]; exact o i hi
  · rw [g2 x (by omega), g2 y (by omega)]; exact s1 x y hx hxy (by omega)
  · by_cases hyD : y < B + n1 + n2
    · rw [g1 y (by omega) hyD, g1 x (by omega) (by omega)]; exact s1 _ _ (by omega) (by omega) (by omega)
    · rw [g2 y (by omega)]
      by_cases hxD : x < B + n1 + n2
      · rw [g1 x (by omega) hxD]; exact l1 _ y (by omega) (by omega) (by omega) (by omega)
      · rw [g2 x (by omega)]; exact s3 x y (by omega) hxy (by omega)
  · rw [g2 x (by omega)]
    by_cases hyD : y < B + n1 + n2
    · rw [g1 y (by omega) hyD]; exact s1 _ _ hx (by omega) (by omega)
    · rw [g2 y (by omega)]; exact l1 x y hx (by omega) (by omega) hy2
  · by_cases hyD : y < B + n1 + n2
    · rw [g1 y (by omega) hyD]
      exact Int.le_trans (s2 x (n2 - 1) (Nat.zero_le _) (by omega) (by omega)) (hle _ (by omega) (by omega))
    · rw [g2 y (by omega)]; exact l2 x y hx (by omega) hy2
  · rw [g2 x (by omega)]; exact l3 x hx (by omega)
  · rw [g2 x (by omega)]; exact ok2 x hx (by omega)
theorem MJ.fin (h : MJ G rk f0 B E f t 0 n2) (g1 : ∀ i, B ≤ i → i < B + n2 → f2 i = t (i - B)) (g2 : ∀ i, i < B ∨ B + n2 ≤ i → f2 i = f i) : SrtA rk f2 B (E - B) ∧ PmR f0 f2 B (E - B) := by
  obtain ⟨⟨a1, a2⟩, p, o, s1, s2, s3, l1, l2, l3, ok1, ok2⟩ := h
  refine ⟨fun x y hx hxy hy => ?_, ?_, fun i hi => ?_⟩
  · by_cases hyD : y < B + n2
    · rw [g1 y (by omega) hyD, g1 x hx (by omega)]; exact s2 _ _ (Nat.zero_le _) (by omega) (by omega)
    · rw [g2 y (by omega)]
      by_cases hxD : x < B + n2
      · rw [g1 x hx hxD]; exact l2 _ y (by omega) (by omega) (by omega)
      · rw [g2 x (by omega)]; exact s3 x y (by omega) hxy (by omega)
  · have e1 : sg f2 B (E - B) = sg t 0 n2 ++ sg f (B + 0 + n2) (E - (B + 0 + n2)) := by
      rw [show E - B = n2 + (E - (B + 0 + n2)) by omega, sg_add]
      congr 1
      · have : sg t 0 n2 = sg f2 (0 + B) n2 := sg_sh n2 0 fun i a b => by
          rw [g1 (i + B) (by omega) (by omega)]; congr 1; omega
        rw [this, Nat.zero_add]
      · exact sg_cg _ _ fun i a b => g2 i (by omega)
    rw [e1]
    exact p
  · rw [g2 i (by omega)]; exact o i (by omega)
theorem acpI {d : Nat} {H : AH} {a e t n1 t2 n2 : Nat} {f g : Nat → Value} {sp dp k : Int} (ha : jm H a = some (t, n1, f)) (hb : jm H e = some (t2, n2, g)) (hc : cpOk t t2 = true) (s0 : 0 ≤ sp) (d0 : 0 ≤ dp) (k0 : 0 ≤ k) (s1 : sp + k ≤ n1) (d1 : dp + k ≤ n2) (l1 : n1 < 2147483648) (l2 : n2 < 2147483648) :
    M2 (d + 1) 90001 [.ref a, .int (zI sp), .ref e, .int (zI dp), .int (zI k)] H = some (.inl none, jset H e (t2, n2, jcpy f g sp.toNat dp.toNat k.toNat)) := by
  obtain ⟨p, rfl⟩ := Int.eq_ofNat_of_zero_le s0
  obtain ⟨q, rfl⟩ := Int.eq_ofNat_of_zero_le d0
  obtain ⟨r, rfl⟩ := Int.eq_ofNat_of_zero_le k0
  exact acp2 ha hb hc (by omega) (by omega) l1 l2
end
