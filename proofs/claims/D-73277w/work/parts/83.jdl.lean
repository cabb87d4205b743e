/-! judges, joined -/
/-- was is laid, what lies ahead; nothing is found, wanted, violated -/
def jd3 (T : Nat → Int → Int) : Nat → Int → Int := ts (ts (ts (ts (ts (LA (tg T 14 (bl 0 1091 (fun x => T 2 (148 + x)) (T 14))) 99 396 594) 0 31 0) 0 32 0) 0 33 0) 0 34 0) 0 26 0
def jd4 (T : Nat → Int → Int) (to : Int) : Nat → Int → Int :=
  if T 5 to = 0 then jd3 T else
  let x := fdL (T 2) (T 5) to 99 0 (0, jd3 T 13, wsT (jd3 T))
  FT (jd3 T) x.1 x.2.1 x.2.2
def jd5 (X : Nat → Int → Int) : Nat → Int → Int := tg X 13 (closF (X 2) (X 12) 100 1 (X 13))
def jd6 (X : Nat → Int → Int) : Nat → Int → Int := ts (ts X 0 32 (X 0 32 + goC (X 13) 99 0)) 0 35 1
def jd7 (X : Nat → Int → Int) : Nat → Int → Int := putW X (rounds (X 2) (X 12) (X 13) 397 (wsT X))
def jdT (T : Nat → Int → Int) (to : Int) : Nat → Int → Int := jd7 (jd6 (jd5 (jd4 T to)))
/-- why a statement is refused (0: it is done), and what is so then -/
def judT (T : Nat → Int → Int) (to : Int) : Int × (Nat → Int → Int) :=
  if T 5 to = 0 ∧ (cntA (T 2) 150 99 0 = 40 ∨ T 2 148 = 99) then (6, jd3 T) else
  if jdT T to 0 34 = 0 then jdE (jdD (jdT T to) to) else (5, jdT T to)
section
variable {d m : Nat} {T : Nat → Int → Int} {h : AH} {to : Int}
theorem jd3_k {k : Nat} (h0 : k ≠ 0) (h1 : k ≠ 11) (h2 : k ≠ 12) (h3 : k ≠ 13) (h4 : k ≠ 14) : jd3 T k = T k := by
  unfold jd3; rw [ts_ne h0, ts_ne h0, ts_ne h0, ts_ne h0, ts_ne h0, LA_k h1 h2 h3, tg_ne h4]
theorem jd3_12 (hA : AhW (T 12)) : AhW (jd3 T 12) := by
  intro i i0 i1
  unfold jd3
  rw [ts_ne (by decide), ts_ne (by decide), ts_ne (by decide), ts_ne (by decide), ts_ne (by decide), LA_12, tg_ne (by decide), tg_ne (by decide)]
  unfold laA
  split
  · unfold ahV
    split
    · exact tgt_rg
    · omega
  · exact hA i i0 i1
theorem jd3_13 : GoW (jd3 T 13) := by
  intro i i0 i1
  unfold jd3
  rw [ts_ne (by decide), ts_ne (by decide), ts_ne (by decide), ts_ne (by decide), ts_ne (by decide), LA_13]
  unfold laG
  rw [if_pos ⟨i0, i1⟩]
  omega
theorem jd3_f (i : Int) : jd3 T 0 i = if i = 31 ∨ i = 32 ∨ i = 33 ∨ i = 34 ∨ i = 26 then 0 else T 0 i := by
  unfold jd3
  simp only [ts_eq, fset_at]
  rw [LA_k (by decide) (by decide) (by decide), tg_ne (by decide)]
  split <;> split <;> first | rfl | omega | (repeat' split) <;> first | rfl | omega
end
