/-! wants: the twin's pass is one, too; without program -/
section
variable {S A Go : Int → Int} {gg : Nat → Bool} {w w0 w1 w2 : WS} {W : Int → Int} {r f q : Int}
theorem folK_sup (WS' : StW S) (hw : WsW w) (h : SupW w W) (h0 : w.2.1 = 0) (r0 : 0 ≤ r) (r1 : r < 99) (f0 : 0 ≤ f) (f1 : f < S 2) (q0 : 0 ≤ q) (q1 : q < 99) (hR : Rul S false r f q W) : SupW (folK S r f q w) W ∧ (folK S r f q w).2.1 = 0 := by
  obtain ⟨K1, K2, -⟩ := WS'.key2 f0 f1
  have ky := WS'.key K1.1 K1.2
  obtain ⟨a1, a2, a3, -⟩ := WS'.ref f0 f1
  unfold folK
  simp only
  by_cases hm : isOth S w q (S (46 + S (82 + f))) = false ∧ (!decide (S (52 + S (82 + f)) < 0) && isOth S w q (S (52 + S (82 + f)))) = false
  · rw [if_pos hm]; exact ⟨h, h0⟩
  · rw [if_neg hm]
    have mvw : movW S f q w = true := by
      unfold movW
      cases e1 : isOth S w q (S (46 + S (82 + f))) with
      | true => rfl
      | false =>
        cases e2 : (!decide (S (52 + S (82 + f)) < 0) && isOth S w q (S (52 + S (82 + f)))) with
        | true => rfl
        | false => exact absurd ⟨e1, e2⟩ hm
    have mv : movW S f q (W, 0, 0) = true := by
      unfold movW at mvw ⊢
      rw [Bool.or_eq_true] at mvw ⊢
      rcases mvw with hm | hm
      · exact Or.inl (isOth_sup hw h (by omega) (by omega) hm).1
      · rw [Bool.and_eq_true] at hm ⊢
        have : ¬ S (52 + S (82 + f)) < 0 := by simpa using hm.1
        exact Or.inr ⟨hm.1, (isOth_sup hw h (by omega) (by omega) hm.2).1⟩
    obtain ⟨hR1, hR2⟩ := hR.2 rfl mv
    by_cases ho : S (94 + f) = 1
    · rw [if_neg (fun z => z ho), if_pos (show S (94 + f) ≤ 1 by omega)]
      obtain ⟨hA, hB⟩ := hR1 ho
      have st1 : SupW (if isOth S w q (S (46 + S (82 + f))) = true then want1 w (4 * r + S (64 + f)) (w.1 (4 * q + S (46 + S (82 + f)))) else w) W ∧ (if isOth S w q (S (46 + S (82 + f))) = true then want1 w (4 * r + S (64 + f)) (w.1 (4 * q + S (46 + S (82 + f)))) else w).2.1 = 0 ∧ KepW w (if isOth S w q (S (46 + S (82 + f))) = true then want1 w (4 * r + S (64 + f)) (w.1 (4 * q + S (46 + S (82 + f)))) else w) := by
        by_cases e : isOth S w q (S (46 + S (82 + f))) = true
        · rw [if_pos e]
          obtain ⟨s1, s2⟩ := isOth_sup hw h (by omega) (by omega) e
          obtain ⟨t1, t2⟩ := want1_sup (i := 4 * r + S (64 + f)) h h0 (by omega) (by omega) ((hA s1).trans s2)
          exact ⟨t1, t2, want1_keep⟩
        · rw [if_neg e]; exact ⟨h, h0, fun _ _ => rfl⟩
      obtain ⟨t1, t2, t3⟩ := st1
      generalize (if isOth S w q (S (46 + S (82 + f))) = true then want1 w (4 * r + S (64 + f)) (w.1 (4 * q + S (46 + S (82 + f)))) else w) = ww at *
      by_cases e : (!decide (S (52 + S (82 + f)) < 0) && isOth S w q (S (52 + S (82 + f)))) = true
      · rw [if_pos e]
        rw [Bool.and_eq_true] at e
        have n2 : ¬ S (52 + S (82 + f)) < 0 := by simpa using e.1
        have n3 : ¬ S (70 + f) < 0 := fun z => n2 (K2.mpr z)
        obtain ⟨s1, s2⟩ := isOth_sup hw h (by omega) (by omega) e.2
        have v := isOth_v hw q0 q1 (by omega) (by omega) e.2
        exact want1_sup t1 t2 (by omega) (by omega) ((hB n2 s1).trans (s2.trans (t3 _ (by omega)).symm))
      · rw [if_neg e]; exact ⟨t1, t2⟩
    · rw [if_pos ho]
      by_cases ho2 : S (94 + f) ≤ 1
      · rw [if_pos ho2]; exact ⟨h, h0⟩
      · rw [if_neg ho2]; exact wantsA_sup WS' h h0 r0 r1 f0 f1 (hR2 (by omega))
theorem folK_fin (WS' : StW S) (hw : WsW w) (f0 : 0 ≤ f) (f1 : f < S 2) (q0 : 0 ≤ q) (q1 : q < 99) (h : FinW (folK S r f q w)) : folK S r f q w = w ∧ Rul S false r f q w.1 := by
  obtain ⟨K1, K2, -⟩ := WS'.key2 f0 f1
  have ky := WS'.key K1.1 K1.2
  unfold folK at h ⊢
  simp only at h ⊢
  by_cases hm : isOth S w q (S (46 + S (82 + f))) = false ∧ (!decide (S (52 + S (82 + f)) < 0) && isOth S w q (S (52 + S (82 + f)))) = false
  · rw [if_pos hm]
    refine ⟨rfl, fun z => (by cases z), fun _ z => ?_⟩
    rw [movW_1] at z
    unfold movW at z
    rw [hm.1, hm.2] at z
    cases z
  · rw [if_neg hm] at h ⊢
    by_cases ho : S (94 + f) = 1
    · rw [if_neg (fun z => z ho), if_pos (show S (94 + f) ≤ 1 by omega)] at h ⊢
      by_cases e1 : isOth S w q (S (46 + S (82 + f))) = true
      · rw [if_pos e1] at h ⊢
        have v1 := isOth_v hw (by omega) q1 ky.2.1.1 ky.2.1.2 e1
        by_cases e2 : (!decide (S (52 + S (82 + f)) < 0) && isOth S w q (S (52 + S (82 + f)))) = true
        · rw [if_pos e2] at h ⊢
          obtain ⟨x1, x2⟩ := want1_fin h (want1_W hw v1).2.1
          rw [x1] at h ⊢
          obtain ⟨y1, y2⟩ := want1_fin h hw.2.1
          rw [y1] at x2 ⊢
          exact ⟨rfl, fun z => (by cases z), fun _ _ => ⟨fun _ => ⟨fun _ => y2, fun _ _ => x2⟩, fun z => absurd z (by omega)⟩⟩
        · rw [if_neg e2] at h ⊢
          obtain ⟨y1, y2⟩ := want1_fin h hw.2.1
          rw [y1]
          refine ⟨rfl, fun z => (by cases z), fun _ _ => ⟨fun _ => ⟨fun _ => y2, fun n2 z => ?_⟩, fun z => absurd z (by omega)⟩⟩
          exfalso
          apply e2
          rw [Bool.and_eq_true]
          exact ⟨by simpa using n2, z⟩
      · rw [if_neg e1] at h ⊢
        by_cases e2 : (!decide (S (52 + S (82 + f)) < 0) && isOth S w q (S (52 + S (82 + f)))) = true
        · rw [if_pos e2] at h ⊢
          obtain ⟨y1, y2⟩ := want1_fin h hw.2.1
          rw [y1]
          exact ⟨rfl, fun z => (by cases z), fun _ _ => ⟨fun _ => ⟨fun z => absurd z e1, fun _ _ => y2⟩, fun z => absurd z (by omega)⟩⟩
        · rw [if_neg e2]
          refine ⟨rfl, fun z => (by cases z), fun _ _ => ⟨fun _ => ⟨fun z => absurd z e1, fun n2 z => ?_⟩, fun z => absurd z (by omega)⟩⟩
          exfalso
          apply e2
          rw [Bool.and_eq_true]
          exact ⟨by simpa using n2, z⟩
    · rw [if_pos ho] at h ⊢
      by_cases ho2 : S (94 + f) ≤ 1
      · rw [if_pos ho2]; exact ⟨rfl, fun z => (by cases z), fun _ _ => ⟨fun z => absurd z ho, fun z => absurd z (by omega)⟩⟩
      · rw [if_neg ho2] at h ⊢
        obtain ⟨x1, x2⟩ := wantsA_fin WS' hw f0 f1 h
        exact ⟨x1, fun z => (by cases z), fun _ _ => ⟨fun z => absurd z ho, fun _ => x2⟩⟩
/-- which rows go -/
def GoG (Go : Int → Int) (gg : Nat → Bool) : Prop := ∀ r, 0 ≤ r → r < 99 → gg r.toNat = decide (0 ≤ Go r)
theorem fol1_sup (WS' : StW S) (hG : GoG Go gg) (hw : WsW w) (h : SupW w W) (h0 : w.2.1 = 0) (r0 : 0 ≤ r) (r1 : r < 99) (f0 : 0 ≤ f) (f1 : f < S 2) (q1 : q < 99) (hR : 0 ≤ q → Rul S (gg q.toNat) r f q W) : SupW (fol1 S Go r f q w) W ∧ (fol1 S Go r f q w).2.1 = 0 := by
  unfold fol1
  by_cases hq : q < 0
  · rw [if_pos hq]; exact ⟨h, h0⟩
  · rw [if_neg hq]
    have hR := hR (by omega)
    rw [hG q (by omega) q1] at hR
    by_cases hg : Go q < 0
    · rw [if_pos hg]
      rw [decide_eq_false (show ¬ 0 ≤ Go q by omega)] at hR
      exact folK_sup WS' hw h h0 r0 r1 f0 f1 (by omega) q1 hR
    · rw [if_neg hg]
      rw [decide_eq_true (show 0 ≤ Go q by omega)] at hR
      by_cases ho : S (88 + f) ≤ 1
      · rw [if_pos ho]; exact ⟨h, h0⟩
      · rw [if_neg ho]; exact wantsA_sup WS' h h0 r0 r1 f0 f1 (hR.1 rfl (by omega))
theorem fol1_fin (WS' : StW S) (hG : GoG Go gg) (hw : WsW w) (f0 : 0 ≤ f) (f1 : f < S 2) (q1 : q < 99) (h : FinW (fol1 S Go r f q w)) : fol1 S Go r f q w = w ∧ (0 ≤ q → Rul S (gg q.toNat) r f q w.1) := by
  unfold fol1 at h ⊢
  by_cases hq : q < 0
  · rw [if_pos hq]; exact ⟨rfl, fun z => absurd hq (by omega)⟩
  · rw [if_neg hq] at h ⊢
    rw [hG q (by omega) q1]
    by_cases hg : Go q < 0
    · rw [if_pos hg] at h ⊢
      rw [decide_eq_false (show ¬ 0 ≤ Go q by omega)]
      obtain ⟨a, b⟩ := folK_fin WS' hw f0 f1 (by omega) q1 h
      exact ⟨a, fun _ => b⟩
    · rw [if_neg hg] at h ⊢
      rw [decide_eq_true (show 0 ≤ Go q by omega)]
      by_cases ho : S (88 + f) ≤ 1
      · rw [if_pos ho]; exact ⟨rfl, fun _ => ⟨fun _ z => absurd z (by omega), fun z => by cases z⟩⟩
      · rw [if_neg ho] at h ⊢
        obtain ⟨x1, x2⟩ := wantsA_fin WS' hw f0 f1 h
        exact ⟨x1, fun _ => ⟨fun _ _ => x2, fun z => by cases z⟩⟩
/-- what the twin laid ahead: the rows to which one refers -/
def AhP (S A : Int → Int) : Prop := ∀ r f, 0 ≤ r → r < 99 → S (150 + r) = 1 → 0 ≤ f → f < S 2 → (if S (58 + f) = S (249 + r) then A (6 * r + f) else -1) = parS S r f
theorem folS_ind {Pr : WS → Prop} (st : ∀ w i v, Pr w → Pr (want1 w i v)) : ∀ (j : Nat) (f : Int) (w : WS), Pr w → Pr (folS S A Go r j f w)
  | 0, _, _, h => h
  | j + 1, f, w, h => folS_ind st j (f + 1) _ (fol1_ind h st)
theorem folR_ind {Pr : WS → Prop} (st : ∀ w i v, Pr w → Pr (want1 w i v)) : ∀ (j : Nat) (r : Int) (w : WS), Pr w → Pr (folR S A Go j r w)
  | 0, _, _, h => h
  | j + 1, r, w, h => folR_ind st j (r + 1) _ (by
    split
    · exact folS_ind st _ _ _ h
    · exact h)
theorem fol1_W' (WS' : StW S) (hw : WsW w) (f0 : 0 ≤ f) (f1 : f < S 2) (q1 : q < 99) : WsW (fol1 S Go r f q w) := by
  unfold fol1
  split
  · exact hw
  · split
    · exact folK_W WS' hw f0 f1 (by omega) q1
    · split
      · exact hw
      · exact wantsA_W WS' hw f0 f1
theorem folS_W' (WS' : StW S) (hA : AhP S A) (r0 : 0 ≤ r) (r1 : r < 99) (r2 : S (150 + r) = 1) : ∀ (j : Nat) (f : Int) (w : WS), WsW w → 0 ≤ f → f + j = S 2 → WsW (folS S A Go r j f w)
  | 0, _, _, h, _, _ => h
  | j + 1, f, w, h, f0, hf => folS_W' WS' hA r0 r1 r2 j (f + 1) _ (fol1_W' WS' h f0 (by omega) (by rw [hA r f r0 r1 r2 f0 (by omega)]; exact parS_rg.2)) (by omega) (by omega)
theorem folS_sup (WS' : StW S) (hG : GoG Go gg) (hA : AhP S A) (hC : ClsW S gg W) (r0 : 0 ≤ r) (r1 : r < 99) (r2 : S (150 + r) = 1) (rg : gg r.toNat = false) : ∀ (j : Nat) (f : Int) (w : WS), WsW w → 0 ≤ f → f + j = S 2 → SupW w W → w.2.1 = 0 → SupW (folS S A Go r j f w) W ∧ (folS S A Go r j f w).2.1 = 0
  | 0, _, _, _, _, _, h, h0 => ⟨h, h0⟩
  | j + 1, f, w, hw, f0, hf, h, h0 => by
    have e := hA r f r0 r1 r2 f0 (by omega)
    have pr := parS_rg (S := S) (r := r) (f := f)
    obtain ⟨a, b⟩ := fol1_sup (q := parS S r f) WS' hG hw h h0 r0 r1 f0 (by omega) pr.2 (hC r f r0 r1 r2 rg f0 (by omega))
    have := folS_sup WS' hG hA hC r0 r1 r2 rg j (f + 1) _ (fol1_W' (r := r) WS' hw f0 (by omega) pr.2) (by omega) (by omega) a b
    rw [← e] at this
    exact this
theorem folS_fin (WS' : StW S) (hG : GoG Go gg) (hA : AhP S A) (r0 : 0 ≤ r) (r1 : r < 99) (r2 : S (150 + r) = 1) : ∀ (j : Nat) (f : Int) (w : WS), WsW w → 0 ≤ f → f + j = S 2 → FinW (folS S A Go r j f w) → folS S A Go r j f w = w ∧ ∀ k, f ≤ k → k < f + j → 0 ≤ parS S r k → Rul S (gg (parS S r k).toNat) r k (parS S r k) w.1
  | 0, f, w, _, _, _, _ => ⟨rfl, fun k _ _ => by omega⟩
  | j + 1, f, w, hw, f0, hf, h => by
    have e := hA r f r0 r1 r2 f0 (by omega)
    have pr := parS_rg (S := S) (r := r) (f := f)
    have eq : folS S A Go r (j + 1) f w = folS S A Go r j (f + 1) (fol1 S Go r f (parS S r f) w) := by rw [← e]; rfl
    rw [eq] at h ⊢
    obtain ⟨a, b⟩ := folS_fin WS' hG hA r0 r1 r2 j (f + 1) _ (fol1_W' (r := r) WS' hw f0 (by omega) pr.2) (by omega) (by omega) h
    rw [a] at h
    obtain ⟨c, e2⟩ := fol1_fin WS' hG hw f0 (by omega) pr.2 h
    refine ⟨by rw [a, c], fun k k0 k1 => ?_⟩
    by_cases hk : k = f
    · subst hk; exact e2
    · have := b k (by omega) (by omega)
      rw [c] at this
      exact this
theorem folR_all (WS' : StW S) (hG : GoG Go gg) (hA : AhP S A) (hAw : AhW A) : PasW S gg (folR S A Go 99 0) := fun w hw => by
  have n2 := WS'.n0.2.2.1.1
  have al : ∀ r, 0 ≤ r → r < 99 → (S (150 + r) = 1 ∧ Go r < 0 ↔ S (150 + r) = 1 ∧ gg r.toNat = false) := fun r r0 r1 => by
    rw [hG r r0 r1, decide_eq_false_iff_not]
    constructor
    · exact fun z => ⟨z.1, by omega⟩
    · exact fun z => ⟨z.1, by omega⟩
  have hW : ∀ (j : Nat) (r : Int) (w : WS), WsW w → 0 ≤ r → r + j = 99 → WsW (folR S A Go j r w) := by
    intro j
    induction j with
    | zero => intro r w h _ _; exact h
    | succ j ih =>
      intro r w h r0 hr
      refine ih (r + 1) _ ?_ (by omega) (by omega)
      split
      · rename_i z
        exact folS_W' WS' hA r0 (by omega) z.1 (S 2).toNat 0 _ h (Int.le_refl _) (by omega)
      · exact h
  have hS : ∀ (W : Int → Int), ClsW S gg W → ∀ (j : Nat) (r : Int) (w : WS), WsW w → 0 ≤ r → r + j = 99 → SupW w W → w.2.1 = 0 → SupW (folR S A Go j r w) W ∧ (folR S A Go j r w).2.1 = 0 := by
    intro W hC j
    induction j with
    | zero => intro r w h _ _ hs h0; exact ⟨hs, h0⟩
    | succ j ih =>
      intro r w h r0 hr hs h0
      have e : folR S A Go (j + 1) r w = folR S A Go j (r + 1) (if S (150 + r) = 1 ∧ Go r < 0 then folS S A Go r (S 2).toNat 0 w else w) := rfl
      rw [e]
      by_cases z : S (150 + r) = 1 ∧ Go r < 0
      · rw [if_pos z]
        have z2 := (al r r0 (by omega)).mp z
        obtain ⟨a, b⟩ := folS_sup WS' hG hA hC r0 (by omega) z.1 z2.2 (S 2).toNat 0 w h (Int.le_refl _) (by omega) hs h0
        exact ih (r + 1) _ (folS_W' WS' hA r0 (by omega) z.1 (S 2).toNat 0 _ h (Int.le_refl _) (by omega)) (by omega) (by omega) a b
      · rw [if_neg z]
        exact ih (r + 1) w h (by omega) (by omega) hs h0
  have hN : ∀ (j : Nat) (r : Int) (w : WS), WsW w → 0 ≤ r → r + j = 99 → FinW (folR S A Go j r w) → folR S A Go j r w = w ∧ ∀ x, r ≤ x → x < 99 → S (150 + x) = 1 → gg x.toNat = false → ∀ k, 0 ≤ k → k < S 2 → 0 ≤ parS S x k → Rul S (gg (parS S x k).toNat) x k (parS S x k) w.1 := by
    intro j
    induction j with
    | zero => intro r w h _ hr _; exact ⟨rfl, fun x a b => by omega⟩
    | succ j ih =>
      intro r w h r0 hr hf
      have e : folR S A Go (j + 1) r w = folR S A Go j (r + 1) (if S (150 + r) = 1 ∧ Go r < 0 then folS S A Go r (S 2).toNat 0 w else w) := rfl
      rw [e] at hf ⊢
      by_cases z : S (150 + r) = 1 ∧ Go r < 0
      · rw [if_pos z] at hf ⊢
        obtain ⟨a, b⟩ := ih (r + 1) _ (folS_W' WS' hA r0 (by omega) z.1 (S 2).toNat 0 _ h (Int.le_refl _) (by omega)) (by omega) (by omega) hf
        rw [a] at hf
        obtain ⟨c, e2⟩ := folS_fin WS' hG hA r0 (by omega) z.1 (S 2).toNat 0 _ h (Int.le_refl _) (by omega) hf
        refine ⟨by rw [a, c], fun x x0 x1 x2 xg => ?_⟩
        by_cases hx : x = r
        · subst hx
          exact fun k k0 k1 => e2 k k0 (by omega)
        · have := b x (by omega) x1 x2 xg
          rw [c] at this
          exact this
      · rw [if_neg z] at hf ⊢
        obtain ⟨a, b⟩ := ih (r + 1) w h (by omega) (by omega) hf
        refine ⟨a, fun x x0 x1 x2 xg => ?_⟩
        by_cases hx : x = r
        · subst hx
          exact absurd ((al x (by omega) x1).mpr ⟨x2, xg⟩) z
        · exact b x (by omega) x1 x2 xg
  refine ⟨hW 99 0 w hw (by omega) (by omega), fun W hC h h0 => hS W hC 99 0 w hw (by omega) (by omega) h h0, fun h => ?_, folR_ind (Pr := fun v => KepW w v) (fun v i x hv => hv.tr want1_keep) _ _ _ (fun _ _ => rfl), fun h => folR_ind (Pr := fun v => v.2.1 = 1) (fun v i x hv => want1_c1 hv) _ _ _ h, folR_P WS' hAw 99 0 w hw (by omega) (by omega)⟩
  obtain ⟨a, b⟩ := hN 99 0 w hw (by omega) (by omega) h
  rw [a]
  exact fun r f r0 r1 r2 rg f0 f1 hp => b r r0 r1 r2 rg f f0 f1 hp
theorem rounds_itr : ∀ (n : Nat) (w : WS), rounds S A Go n w = itr (folR S A Go 99 0) n w
  | 0, _ => rfl
  | n + 1, w => by
    rw [itr_s]
    unfold rounds
    split
    · rfl
    · exact rounds_itr n _
end
