/-! sentences as codes: well made ones, what they say -/
section
variable {S nm : Int → Int} {w t : Int}
def pkD (S nm : Int → Int) (w t : Int) : Int := if t < S 0 then skZ S nm w t + 1 else 0
theorem pkZ_eq (W : ScW S) : pkZ S nm w = pkD S nm w 0 + 8 * pkD S nm w 1 + 64 * pkD S nm w 2 + 512 * pkD S nm w 3 := by
  have W0 := W.1
  unfold pkZ pkD
  rcases (show S 0 = 0 ∨ S 0 = 1 ∨ S 0 = 2 ∨ S 0 = 3 ∨ S 0 = 4 by omega) with e | e | e | e | e
  · rw [e]; rfl
  · rw [e]; show (skZ S nm w 0 + 1) * 1 + 0 = _; simp
  · rw [e]; show (skZ S nm w 0 + 1) * 1 + ((skZ S nm w 1 + 1) * 8 + 0) = _; simp; omega
  · rw [e]; show (skZ S nm w 0 + 1) * 1 + ((skZ S nm w 1 + 1) * 8 + ((skZ S nm w 2 + 1) * 64 + 0)) = _; simp; omega
  · rw [e]; show (skZ S nm w 0 + 1) * 1 + ((skZ S nm w 1 + 1) * 8 + ((skZ S nm w 2 + 1) * 64 + ((skZ S nm w 3 + 1) * 512 + 0))) = _; simp; omega
theorem pkD_rg (W : ScW S) (t0 : 0 ≤ t) (t1 : t < 4) : 0 ≤ pkD S nm w t ∧ pkD S nm w t ≤ 4 := by
  have co := W.2 t t0 t1
  have sk := skZ_rg (S := S) (nm := nm) (w := w) (t := t) co.2
  unfold pkD
  split <;> omega
theorem pkZ_lt (W : ScW S) : 0 ≤ pkZ S nm w ∧ pkZ S nm w < 4096 := by
  have a0 := pkD_rg (nm := nm) (w := w) W (t := 0) (by omega) (by omega)
  have a1 := pkD_rg (nm := nm) (w := w) W (t := 1) (by omega) (by omega)
  have a2 := pkD_rg (nm := nm) (w := w) W (t := 2) (by omega) (by omega)
  have a3 := pkD_rg (nm := nm) (w := w) W (t := 3) (by omega) (by omega)
  rw [pkZ_eq W]; omega
theorem pk_dig (W : ScW S) (t0 : 0 ≤ t) (t1 : t < 4) : pkZ S nm w / p8 t % 8 = pkD S nm w t := by
  have a0 := pkD_rg (nm := nm) (w := w) W (t := 0) (by omega) (by omega)
  have a1 := pkD_rg (nm := nm) (w := w) W (t := 1) (by omega) (by omega)
  have a2 := pkD_rg (nm := nm) (w := w) W (t := 2) (by omega) (by omega)
  have a3 := pkD_rg (nm := nm) (w := w) W (t := 3) (by omega) (by omega)
  rw [pkZ_eq W]
  rcases (show t = 0 ∨ t = 1 ∨ t = 2 ∨ t = 3 by omega) with e | e | e | e
  · rw [e, show p8 0 = 1 from rfl]; omega
  · rw [e, show p8 1 = 8 from rfl]; omega
  · rw [e, show p8 2 = 64 from rfl]; omega
  · rw [e, show p8 3 = 512 from rfl]; omega
end
theorem sr8_1 : ∀ a : Fin 64, ∀ b : Fin 64, ((zI (64 * (a.val : Int) + b.val) >>> (zI 0 &&& zI 31)) &&& zI 7) = zI ((64 * (a.val : Int) + b.val) / 1 % 8) := by decide +kernel
theorem sr8_2 : ∀ a : Fin 64, ∀ b : Fin 64, ((zI (64 * (a.val : Int) + b.val) >>> (zI 3 &&& zI 31)) &&& zI 7) = zI ((64 * (a.val : Int) + b.val) / 8 % 8) := by decide +kernel
theorem sr8_3 : ∀ a : Fin 64, ∀ b : Fin 64, ((zI (64 * (a.val : Int) + b.val) >>> (zI 6 &&& zI 31)) &&& zI 7) = zI ((64 * (a.val : Int) + b.val) / 64 % 8) := by decide +kernel
theorem sr8_4 : ∀ a : Fin 64, ∀ b : Fin 64, ((zI (64 * (a.val : Int) + b.val) >>> (zI 9 &&& zI 31)) &&& zI 7) = zI ((64 * (a.val : Int) + b.val) / 512 % 8) := by decide +kernel
theorem sr8 {t a : Int} (t0 : 0 ≤ t) (t1 : t < 4) (a0 : 0 ≤ a) (a1 : a < 4096) : ((zI a >>> (zI (3 * t) &&& zI 31)) &&& zI 7) = zI (a / p8 t % 8) := by
  have ea : 64 * ((a / 64).toNat : Int) + ((a % 64).toNat : Int) = a := by omega
  rcases (show t = 0 ∨ t = 1 ∨ t = 2 ∨ t = 3 by omega) with e | e | e | e
  · have k := sr8_1 ⟨(a / 64).toNat, by omega⟩ ⟨(a % 64).toNat, by omega⟩
    simp only [ea] at k
    rw [e]; exact k
  · have k := sr8_2 ⟨(a / 64).toNat, by omega⟩ ⟨(a % 64).toNat, by omega⟩
    simp only [ea] at k
    rw [e]; exact k
  · have k := sr8_3 ⟨(a / 64).toNat, by omega⟩ ⟨(a % 64).toNat, by omega⟩
    simp only [ea] at k
    rw [e]; exact k
  · have k := sr8_4 ⟨(a / 64).toNat, by omega⟩ ⟨(a % 64).toNat, by omega⟩
    simp only [ea] at k
    rw [e]; exact k
/-- a leaf -/
def LfW (S nm : Int → Int) (c : Cd) : Prop := (c.1 = 0 ∨ c.1 = 1 ∨ c.1 = 2 ∨ (c.1 = 3 ∧ 0 ≤ c.2.2 ∧ c.2.2 < 4)) ∨ ((c.1 = 4 ∨ ∃ w, c.1 = 100 + pkZ S nm w ∧ pkZ S nm w ≠ 0) ∧ (60 ≤ c.2.1 ∧ c.2.1 ≤ 62) ∧ 0 ≤ c.2.2 ∧ c.2.2 ≤ 99)
/-- codes that leave one truth, n are there -/
def WfC (S nm : Int → Int) : List Cd → Nat → Prop
  | [], n => n = 1
  | c :: cs, n => if c.1 = 20 then 1 ≤ n ∧ WfC S nm cs n else if c.1 = 21 ∨ c.1 = 22 then 2 ≤ n ∧ WfC S nm cs (n - 1) else LfW S nm c ∧ WfC S nm cs (n + 1)
/-- codes that make one truth more -/
def PsC (S nm : Int → Int) (x : List Cd) : Prop := ∀ cs n, WfC S nm cs (n + 1) → WfC S nm (x ++ cs) n
section
variable {S nm : Int → Int} {x y : List Cd} {c : Cd}
theorem PsC.leaf (W : ScW S) (h : LfW S nm c) : PsC S nm [c] := fun cs n hw => by
  have hp : (∃ w, c.1 = 100 + pkZ S nm w ∧ pkZ S nm w ≠ 0) → 100 < c.1 := fun ⟨w, e, e2⟩ => by have := pkZ_lt (nm := nm) (w := w) W; omega
  have ne : c.1 ≠ 20 ∧ ¬ (c.1 = 21 ∨ c.1 = 22) := by
    unfold LfW at h
    rcases h with (h | h | h | ⟨h, -⟩) | ⟨h | h, -⟩
    · omega
    · omega
    · omega
    · omega
    · omega
    · have := hp h; omega
  show (if _ then _ else _)
  rw [if_neg ne.1, if_neg ne.2]
  exact ⟨h, hw⟩
theorem PsC.not (h : PsC S nm x) : PsC S nm (x ++ [(20, 0, 0)]) := fun cs n hw => by
  rw [List.append_assoc]
  refine h _ n ?_
  show (if _ then _ else _)
  rw [if_pos rfl]
  exact ⟨by omega, hw⟩
theorem PsC.two {v : Int} (h : PsC S nm x) (h2 : PsC S nm y) (hv : v = 21 ∨ v = 22) : PsC S nm (x ++ y ++ [(v, 0, 0)]) := fun cs n hw => by
  rw [List.append_assoc, List.append_assoc]
  refine h _ n (h2 _ (n + 1) ?_)
  show (if _ then _ else _)
  rw [if_neg (show ¬ v = 20 by omega), if_pos hv]
  exact ⟨by omega, hw⟩
theorem PsC.wf (h : PsC S nm x) : WfC S nm x 0 := by
  have := h [] 0 rfl
  rwa [List.append_nil] at this
end
section
variable {g : Int → Int} {z l : Int} {S nm : Int → Int}
theorem lfP_W {lf q : Int} {c : Cd × Int} (W : ScW S) (hlf : lf = 0 ∨ lf = 1 ∨ lf = 2 ∨ lf = 3 ∨ lf = 4 ∨ ∃ w, lf = 100 + pkZ S nm w ∧ pkZ S nm w ≠ 0) (h : lfP g z l S nm lf q = .ok c) : LfW S nm c.1 := by
  unfold lfP at h
  by_cases c3 : lf < 3
  · rw [if_pos c3] at h
    cases h
    left
    rcases hlf with e | e | e | e | e | ⟨w, e, -⟩
    · exact Or.inl e
    · exact Or.inr (Or.inl e)
    · exact Or.inr (Or.inr (Or.inl e))
    · omega
    · omega
    · have := pkZ_lt (nm := nm) (w := w) W; omega
  · rw [if_neg c3] at h
    by_cases e3 : lf = 3
    · rw [if_pos e3] at h
      cases hl : lookP g z l (fun k => nm (0 + k)) (S 0).toNat q with
      | error e => rw [hl] at h; cases h
      | ok a =>
        rw [hl] at h
        cases h
        have := lookP_rg hl
        have := W.1
        exact Or.inl (Or.inr (Or.inr (Or.inr ⟨rfl, by show 0 ≤ a; omega, by show a < 4; omega⟩)))
    · rw [if_neg e3] at h
      by_cases ct : isThan g z l q = false
      · rw [if_pos ct] at h; cases h
      · rw [if_neg ct] at h
        have ct' : isThan g z l q = true := by simpa using ct
        unfold isThan at ct'
        simp only [Bool.and_eq_true] at ct'
        have r := isInZ_t ct'.2
        cases hn : numP g z l 0 99 (nxt g z l q) with
        | error e => rw [hn] at h; cases h
        | ok a =>
          rw [hn] at h
          cases h
          have ra : 0 ≤ a ∧ a ≤ 99 := by
            unfold numP at hn
            split at hn
            · cases hn
            · split at hn
              · cases hn
              · rename_i x
                cases hn
                exact isInZ_t (by simpa using x)
          refine Or.inr ⟨?_, r, ra⟩
          rcases hlf with e | e | e | e | e | e
          · omega
          · omega
          · omega
          · omega
          · exact Or.inl e
          · exact Or.inr e
theorem leafZ_W {q : Int} (h : ¬ leafZ g z l S nm q < 0) (h2 : leafZ g z l S nm q ≠ 100) : leafZ g z l S nm q = 0 ∨ leafZ g z l S nm q = 1 ∨ leafZ g z l S nm q = 2 ∨ leafZ g z l S nm q = 3 ∨ leafZ g z l S nm q = 4 ∨ ∃ w, leafZ g z l S nm q = 100 + pkZ S nm w ∧ pkZ S nm w ≠ 0 := by
  unfold leafZ at h h2 ⊢
  by_cases c1 : isW g z l q wBARE = true
  · rw [if_pos c1]; exact Or.inl rfl
  · rw [if_neg c1] at h h2 ⊢
    by_cases c2 : isW g z l q wKNOWN = true
    · rw [if_pos c2]; exact Or.inr (Or.inl rfl)
    · rw [if_neg c2] at h h2 ⊢
      by_cases c3 : isW g z l q wBROKEN = true
      · rw [if_pos c3]; exact Or.inr (Or.inr (Or.inl rfl))
      · rw [if_neg c3] at h h2 ⊢
        by_cases c4 : isW g z l q wIN = true
        · rw [if_pos c4]; exact Or.inr (Or.inr (Or.inr (Or.inl rfl)))
        · rw [if_neg c4] at h h2 ⊢
          by_cases c5 : isW g z l q wROW = true
          · rw [if_pos c5]; exact Or.inr (Or.inr (Or.inr (Or.inr (Or.inl rfl))))
          · rw [if_neg c5] at h h2 ⊢
            by_cases c6 : isNm g z l q = true
            · rw [if_pos c6] at h h2 ⊢
              exact Or.inr (Or.inr (Or.inr (Or.inr (Or.inr ⟨_, rfl, fun e => h2 (by rw [e]; rfl)⟩))))
            · rw [if_neg c6] at h
              exact absurd (by decide) h
def SaP (S nm : Int → Int) (sa : Int → Int → Except Er SR) : Prop := ∀ ones q a, sa ones q = .ok a → PsC S nm a.1
theorem anL_W {sa : Int → Int → Except Er SR} (h : SaP S nm sa) : ∀ (n : Nat) (a b : SR), PsC S nm a.1 → anL g z l sa n a = .ok b → PsC S nm b.1 := by
  intro n
  induction n with
  | zero => intro a b _ hb; cases hb
  | succ n ih =>
    intro a b ha hb
    unfold anL at hb
    by_cases c : isW g z l a.2.2 wAND = true
    · rw [if_pos c] at hb
      cases hs : sa a.2.1 (nxt g z l a.2.2) with
      | error e => rw [hs] at hb; cases hb
      | ok x =>
        rw [hs, eb_ok] at hb
        exact ih _ b (ha.two (h _ _ _ hs) (Or.inl rfl)) hb
    · rw [if_neg c] at hb
      cases hb; exact ha
theorem anP_W {sa : Int → Int → Except Er SR} (h : SaP S nm sa) : SaP S nm (anP g z l sa) := fun ones q b hb => by
  unfold anP at hb
  cases hs : sa ones q with
  | error e => rw [hs] at hb; cases hb
  | ok x => rw [hs, eb_ok] at hb; exact anL_W h 21 x b (h _ _ _ hs) hb
theorem orL_W {sa : Int → Int → Except Er SR} (h : SaP S nm sa) : ∀ (n : Nat) (a b : SR), PsC S nm a.1 → orL g z l sa n a = .ok b → PsC S nm b.1 := by
  intro n
  induction n with
  | zero => intro a b _ hb; cases hb
  | succ n ih =>
    intro a b ha hb
    unfold orL at hb
    by_cases c : isW g z l a.2.2 wOR = true
    · rw [if_pos c] at hb
      cases hs : anP g z l sa a.2.1 (nxt g z l a.2.2) with
      | error e => rw [hs] at hb; cases hb
      | ok x =>
        rw [hs, eb_ok] at hb
        exact ih _ b (ha.two (anP_W h _ _ _ hs) (Or.inr rfl)) hb
    · rw [if_neg c] at hb
      cases hb; exact ha
theorem orP_W {sa : Int → Int → Except Er SR} (h : SaP S nm sa) : SaP S nm (orP g z l sa) := fun ones q b hb => by
  unfold orP at hb
  cases hs : anP g z l sa ones q with
  | error e => rw [hs] at hb; cases hb
  | ok x => rw [hs, eb_ok] at hb; exact orL_W h 21 x b (anP_W h _ _ _ hs) hb
theorem saP_W (W : ScW S) : ∀ (n : Nat), SaP S nm (saP g z l S nm n) := by
  intro n
  induction n with
  | zero =>
    intro ones q a h
    unfold saP at h
    split at h
    · cases h
    · split at h <;> cases h
  | succ n ih =>
    intro ones q a h
    unfold saP at h
    by_cases c1 : isW g z l q wNOT = false ∧ isS g z l q 40 = false ∧ leafZ g z l S nm q < 0
    · rw [if_pos c1] at h; cases h
    · rw [if_neg c1] at h
      by_cases c2 : leafZ g z l S nm q = 100
      · rw [if_pos c2] at h; cases h
      · rw [if_neg c2] at h
        by_cases c3 : ones = 20
        · rw [if_pos c3] at h; cases h
        · rw [if_neg c3] at h
          by_cases c4 : isS g z l q 40 = true
          · rw [if_pos c4] at h
            cases hr : orP g z l (saP g z l S nm n) (ones + 1) (nxt g z l q) with
            | error e => rw [hr] at h; cases h
            | ok x =>
              rw [hr, eb_ok] at h
              by_cases c5 : isS g z l x.2.2 41 = true
              · rw [if_pos c5] at h
                cases h
                show PsC S nm x.1
                exact orP_W ih _ _ _ hr
              · rw [if_neg c5] at h; cases h
          · rw [if_neg c4] at h
            by_cases c6 : isW g z l q wNOT = true
            · rw [if_pos c6] at h
              cases hr : saP g z l S nm n (ones + 1) (nxt g z l q) with
              | error e => rw [hr] at h; cases h
              | ok x =>
                rw [hr, eb_ok] at h
                cases h
                exact (ih _ _ _ hr).not
            · rw [if_neg c6] at h
              have n1 : isW g z l q wNOT = false := Bool.eq_false_iff.mpr c6
              have n2 : isS g z l q 40 = false := Bool.eq_false_iff.mpr c4
              have lz := leafZ_W (g := g) (z := z) (l := l) (S := S) (nm := nm) (q := q) (fun x => c1 ⟨n1, n2, x⟩) c2
              cases hr : lfP g z l S nm (leafZ g z l S nm q) (nxt g z l q) with
              | error e => rw [hr] at h; cases h
              | ok x =>
                rw [hr, eb_ok] at h
                cases h
                exact PsC.leaf W (lfP_W W lz hr)
theorem senP_W {a : List Cd × Int} (W : ScW S) (h : senP g z l S nm = .ok a) : WfC S nm a.1 0 := by
  unfold senP at h
  cases hr : orP g z l (saP g z l S nm 8) 0 0 with
  | error e => rw [hr] at h; cases h
  | ok x =>
    rw [hr, eb_ok] at h
    by_cases c : kd g z l x.2.2 = 0
    · rw [if_pos c] at h
      cases h
      exact (orP_W (saP_W W 8) _ _ _ hr).wf
    · rw [if_neg c] at h; cases h
end
