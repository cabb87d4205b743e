/-! what the interpreter does with pseudo-cells it does with what they stand for: whole runs -/
section
variable {Fo : Nat → Option Cl} {h H : AH}
theorem cpOk_t {t t2 : Nat} (h : cpOk t t2 = true) : psT t = false ∧ psT t2 = false ∧ t2 % 10 = 0 := by
  simp only [cpOk, Bool.or_eq_true, Bool.and_eq_true, Nat.beq_eq] at h
  exact ⟨psT_1000 (by omega), psT_1000 (by omega), by omega⟩
theorem si_prim (R : RX Fo h H) {y : Nat} {as : List Value} : SimR Fo (jprim y as H) (jprim y as h) := by
  intro o H2 e
  unfold jprim at e ⊢
  split at e
  · cases e; exact ⟨h, rfl, R⟩
  · rename_i a sp b dp n
    show ∃ h2, (match jm h a, jm h b with
      | some (t, n1, f), some (t2, n2, g) => if cpOk t t2 = true ∧ ¬ sp < 0 ∧ ¬ dp < 0 ∧ ¬ n < 0 ∧ sp.toNatClampNeg + n.toNatClampNeg ≤ n1 ∧ dp.toNatClampNeg + n.toNatClampNeg ≤ n2 then some (.inl none, jset h b (t2, n2, jcpy f g sp.toNatClampNeg dp.toNatClampNeg n.toNatClampNeg)) else none
      | _, _ => none) = some (o, h2) ∧ RX Fo h2 H2
    cases e1 : jm H a with
    | none => rw [e1] at e; cases e
    | some c1 =>
      cases e2 : jm H b with
      | none => rw [e1, e2] at e; cases e
      | some c2 =>
        obtain ⟨t, n1, f⟩ := c1
        obtain ⟨t2, n2, g⟩ := c2
        rw [e1, e2] at e
        simp only [] at e
        split at e
        · rename_i hc
          obtain ⟨p1, p2, p3⟩ := cpOk_t hc.1
          rw [R.get e1 p1, R.get e2 p2]
          simp only []
          rw [if_pos hc]
          cases e
          exact ⟨_, rfl, R.set e2 p2 (Or.inr p3)⟩
        · cases e
  · rename_i a
    show ∃ h2, (match jm h a with
      | some (t, _) => if t = 1040 ∨ t = 1041 then some (.inl (some (je h 47)), h) else none
      | none => none) = some (o, h2) ∧ RX Fo h2 H2
    cases e1 : jm H a with
    | none => rw [e1] at e; cases e
    | some c1 =>
      obtain ⟨t, n1, f⟩ := c1
      rw [e1] at e
      simp only [] at e
      split at e
      · rename_i hc
        rw [R.get e1 (psT_1000 (by show 1000 ≤ t; omega))]
        simp only []
        rw [if_pos hc, R.e]
        cases e
        exact ⟨_, rfl, R⟩
      · cases e
  · rename_i u a x
    show ∃ h2, (match jm h u, jm h a with
      | some (tu, _), some (t, n, f) => if tu = 159 ∧ t = 1000 ∧ x = 16 ∧ 2 ≤ n then some (.inl (some (jL2 (f 0) (f 1))), h) else none
      | _, _ => none) = some (o, h2) ∧ RX Fo h2 H2
    cases e1 : jm H u with
    | none => rw [e1] at e; cases e
    | some c1 =>
      cases e2 : jm H a with
      | none => rw [e1, e2] at e; cases e
      | some c2 =>
        obtain ⟨t, n1, f⟩ := c1
        obtain ⟨t2, n2, g⟩ := c2
        rw [e1, e2] at e
        simp only [] at e
        split at e
        · rename_i hc
          rw [R.get e1 (psT_200 (by show t < 200; omega)), R.get e2 (psT_1000 (by show 1000 ≤ t2; omega))]
          simp only []
          rw [if_pos hc]
          cases e
          exact ⟨_, rfl, R⟩
        · cases e
  · cases e
theorem si_run {cH c : Cll} (C : SimC Fo cH c) {y : Nat} : ∀ (n : Nat) (pc : Nat) (L st : List Value) (h H : AH), RX Fo h H → SimR Fo (jrun cH y n (pc, L, st, H)) (jrun c y n (pc, L, st, h)) := by
  intro n
  induction n with
  | zero => intro pc L st h H _ o H2 e; cases e
  | succ n ih =>
    intro pc L st h H R o H2 e
    rw [jrun] at e ⊢
    unfold stp at e ⊢
    simp only [] at e ⊢
    cases hd : decode (jtCode y) pc with
    | error x => rw [hd] at e; cases e
    | ok w =>
      obtain ⟨i, len⟩ := w
      rw [hd] at e
      simp only [] at e ⊢
      have s := si_exi C R (y := y) (pc := pc) (L := L) (st := st) (len := len) (i := i)
      cases hs : exi cH y pc L st H len i with
      | none => rw [hs] at e; cases e
      | some w =>
        rw [hs] at e s
        cases w with
        | inl c1 =>
          obtain ⟨h2, e2, R2⟩ := s
          rw [e2]
          exact ih _ _ _ _ _ R2 _ _ e
        | inr z =>
          obtain ⟨h2, e2, R2⟩ := s
          rw [e2]
          cases e
          exact ⟨h2, rfl, R2⟩
theorem recv_sim (R : RX Fo h H) {y : Nat} {as : List Value} (e : jrecv y as H = true) : jrecv y as h = true := by
  unfold jrecv at e ⊢
  cases hs : jtStat y with
  | true => rfl
  | false =>
    rw [hs, Bool.false_or] at e
    rw [Bool.false_or]
    cases as with
    | nil => cases e
    | cons v r =>
      cases v with
      | ref a =>
        simp only [] at e ⊢
        cases e1 : jm H a with
        | none => rw [e1] at e; cases e
        | some c =>
          obtain ⟨t, n, f⟩ := c
          rw [e1] at e
          have := gd_jtRecv y t (of_decide_eq_true e)
          rw [R.get e1 (psT_200 this)]
          exact e
      | _ => cases e
/-- what is owed of the library: its methods do with collections what jprim2 says -/
def PrimOK : Prop := ∀ (Fo : Nat → Option Cl) (d y : Nat) (as : List Value) (h H : AH), pse y = true → RX Fo h H → SimR Fo (jprim2 y as H) (M (d + 12) y as h)
theorem sim2 (hp : PrimOK) : ∀ (d y : Nat) (as : List Value) (h H : AH), RX Fo h H → SimR Fo (M2 d y as H) (M (d + 12) y as h) := by
  intro d
  induction d with
  | zero => intro y as h H _ o H2 e; cases e
  | succ d ih =>
    intro y as h H R o H2 e
    rw [M2] at e
    cases hq : pse y with
    | true =>
      rw [hq, if_pos rfl] at e
      exact hp Fo (d + 1) y as h H hq R o H2 e
    | false =>
      rw [hq, if_neg (by decide)] at e
      rw [show d + 1 + 12 = (d + 12) + 1 by omega, M]
      by_cases h9 : 90000 ≤ y
      · rw [if_pos h9] at e ⊢
        exact si_prim R o H2 e
      · rw [if_neg h9] at e ⊢
        split at e
        · rename_i hc
          rw [if_pos ⟨recv_sim R hc.1, hc.2⟩]
          obtain ⟨n, hn⟩ := jlim_ex e
          obtain ⟨h2, e2, R2⟩ := si_run (c := M (d + 12)) ⟨ih, fun as H => M2_zero d as H⟩ n _ _ _ _ _ R o H2 hn
          exact ⟨h2, jlim_some e2, R2⟩
        · cases e
end
