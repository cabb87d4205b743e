/-! wants: passes until nothing is new; both ways end in the least closed wants; without program -/
def parS (S : Int → Int) (r f : Int) : Int := if S (249 + r) = S (58 + f) then tgtS S r f else -1
def comF (S : Int → Int) (gg : Nat → Bool) (r : Int) : Nat → Int → WS → WS
  | 0, _, w => w
  | j + 1, f, w => comF S gg r j (f + 1) (com1 S gg r f (parS S r f) w)
def comL (S : Int → Int) (gg : Nat → Bool) : List Int → WS → WS
  | [], w => w
  | x :: s, w => comL S gg s (if gg x.toNat = true then w else comF S gg x (S 2).toNat 0 w)
def ClsW (S : Int → Int) (gg : Nat → Bool) (W : Int → Int) : Prop := ∀ r f, 0 ≤ r → r < 99 → S (150 + r) = 1 → gg r.toNat = false → 0 ≤ f → f < S 2 → 0 ≤ parS S r f → Rul S (gg (parS S r f).toNat) r f (parS S r f) W
def KepW (w w' : WS) : Prop := ∀ i, w.1 i ≠ -9 → w'.1 i = w.1 i
def itr (ps : WS → WS) : Nat → WS → WS
  | 0, w => w
  | n + 1, w => if w.2.2 = 0 ∨ w.2.1 = 1 then w else itr ps n (ps (w.1, w.2.1, 0))
/-- what a pass does -/
def PasW (S : Int → Int) (gg : Nat → Bool) (ps : WS → WS) : Prop := ∀ w, WsW w → WsW (ps w) ∧ (∀ W, ClsW S gg W → SupW w W → w.2.1 = 0 → SupW (ps w) W ∧ (ps w).2.1 = 0) ∧ (FinW (ps w) → ClsW S gg (ps w).1) ∧ KepW w (ps w) ∧ (w.2.1 = 1 → (ps w).2.1 = 1) ∧ ph (ps w) ≤ ph w
def LstW (S : Int → Int) (gg : Nat → Bool) (w w' : WS) : Prop := WsW w' ∧ (∀ W, ClsW S gg W → SupW w W → w'.2.1 = 0 ∧ SupW w' W) ∧ (w'.2.1 = 0 → ClsW S gg w'.1 ∧ SupW w w'.1)
section
variable {S A Go : Int → Int} {gg : Nat → Bool} {w w0 w1 w2 : WS} {W : Int → Int} {r f q : Int}
theorem want1_keep {i v : Int} : KepW w (want1 w i v) := fun j hj => by
  unfold want1
  by_cases e : w.1 i = -9
  · rw [if_pos e]
    show fset w.1 i v j = w.1 j
    exact fset_ne (by rintro rfl; exact hj e)
  · rw [if_neg e]
theorem KepW.tr (a : KepW w w1) (b : KepW w1 w2) : KepW w w2 := fun i hi => (b i (by rw [a i hi]; exact hi)).trans (a i hi)
theorem want1_c1 {i v : Int} (h : w.2.1 = 1) : (want1 w i v).2.1 = 1 := by
  unfold want1
  by_cases e : w.1 i = -9
  · rw [if_pos e]; exact h
  · rw [if_neg e]
    show (if w.2.1 = 0 ∧ w.1 i = v then (0 : Int) else 1) = 1
    rw [if_neg (fun z => by rw [h] at z; exact absurd z.1 (by decide))]
theorem wantsA_ind {Pr : WS → Prop} {b : Bool} (h : Pr w) (st : ∀ w i v, Pr w → Pr (want1 w i v)) : Pr (wantsA S r f b w) := by
  have s1 : ∀ (c : Prop) [Decidable c] (w : WS) (i v : Int), Pr w → Pr (if c then w else want1 w i v) := fun c _ w i v hw => by
    split
    · exact hw
    · exact st _ _ _ hw
  unfold wantsA
  exact s1 _ _ _ _ (s1 _ _ _ _ h)
theorem com1_ind {Pr : WS → Prop} (h : Pr w) (st : ∀ w i v, Pr w → Pr (want1 w i v)) : Pr (com1 S gg r f q w) := by
  have s1 : ∀ (c : Prop) [Decidable c] (w : WS) (i v : Int), Pr w → Pr (if c then want1 w i v else w) := fun c _ w i v hw => by
    split
    · exact st _ _ _ hw
    · exact hw
  have s2 : ∀ (c : Prop) [Decidable c] (x y : WS), Pr x → Pr y → Pr (if c then x else y) := fun c _ x y hx hy => by
    split
    · exact hx
    · exact hy
  unfold com1
  refine s2 _ _ _ h (s2 _ _ _ (s2 _ _ _ h (wantsA_ind h st)) (s2 _ _ _ h (s2 _ _ _ ?_ (s2 _ _ _ h (wantsA_ind h st)))))
  unfold chgW
  exact s1 _ _ _ _ (s1 _ _ _ _ h)
theorem fol1_ind {Pr : WS → Prop} (h : Pr w) (st : ∀ w i v, Pr w → Pr (want1 w i v)) : Pr (fol1 S Go r f q w) := by
  have s1 : ∀ (c : Prop) [Decidable c] (w : WS) (i v : Int), Pr w → Pr (if c then want1 w i v else w) := fun c _ w i v hw => by
    split
    · exact st _ _ _ hw
    · exact hw
  have s2 : ∀ (c : Prop) [Decidable c] (x y : WS), Pr x → Pr y → Pr (if c then x else y) := fun c _ x y hx hy => by
    split
    · exact hx
    · exact hy
  unfold fol1
  refine s2 _ _ _ h (s2 _ _ _ ?_ (s2 _ _ _ h (wantsA_ind h st)))
  unfold folK
  have w0 : Pr (if S (94 + f) ≤ 1 then w else wantsA S r f (decide (S (94 + f) = 3)) w) := s2 _ _ _ h (wantsA_ind h st)
  exact s2 _ _ _ h (s2 _ _ _ w0 (s1 _ _ _ _ (s1 _ _ _ _ w0)))
theorem parS_rg : -1 ≤ parS S r f ∧ parS S r f < 99 := by
  unfold parS
  split
  · exact tgt_rg
  · decide
/-- what is over stays over -/
theorem FinW.back {Pr : WS → Prop} (h : FinW w1) (hk : ∀ Pr : WS → Prop, Pr w → (∀ w i v, Pr w → Pr (want1 w i v)) → Pr w1) (hw : w.2.1 = 0 ∨ w.2.1 = 1) (hw2 : w.2.2 = 0 ∨ w.2.2 = 1) : FinW w := by
  refine ⟨?_, ?_⟩
  · rcases hw with h0 | h0
    · exact h0
    · have := hk (fun w => w.2.1 = 1) h0 fun w i v hw => want1_c1 hw
      rw [h.1] at this
      exact absurd this (by decide)
  · rcases hw2 with h0 | h0
    · exact h0
    · have := hk (fun w => w.2.2 = 1) h0 fun w i v hw => by
        unfold want1
        split
        · rfl
        · exact hw
      rw [h.2] at this
      exact absurd this (by decide)
theorem comF_ind {Pr : WS → Prop} (st : ∀ w i v, Pr w → Pr (want1 w i v)) : ∀ (j : Nat) (f : Int) (w : WS), Pr w → Pr (comF S gg r j f w)
  | 0, _, _, h => h
  | j + 1, f, w, h => comF_ind st j (f + 1) _ (com1_ind h st)
theorem comL_ind {Pr : WS → Prop} (st : ∀ w i v, Pr w → Pr (want1 w i v)) : ∀ (s : List Int) (w : WS), Pr w → Pr (comL S gg s w)
  | [], _, h => h
  | x :: s, w, h => comL_ind st s _ (by
    split
    · exact h
    · exact comF_ind st _ _ _ h)
theorem comF_W (WS' : StW S) : ∀ (j : Nat) (f : Int) (w : WS), WsW w → 0 ≤ f → f + j = S 2 → WsW (comF S gg r j f w)
  | 0, _, _, h, _, _ => h
  | j + 1, f, w, h, f0, hf => comF_W WS' j (f + 1) _ (com1_W WS' h f0 (by omega) parS_rg.2) (by omega) (by omega)
theorem comF_P (WS' : StW S) (r0 : 0 ≤ r) (r1 : r < 99) : ∀ (j : Nat) (f : Int) (w : WS), WsW w → 0 ≤ f → f + j = S 2 → ph (comF S gg r j f w) ≤ ph w
  | 0, _, _, _, _, _ => Nat.le_refl _
  | j + 1, f, w, h, f0, hf => Nat.le_trans (comF_P WS' r0 r1 j (f + 1) _ (com1_W WS' h f0 (by omega) parS_rg.2) (by omega) (by omega)) (com1_P WS' h r0 r1 f0 (by omega) parS_rg.2)
theorem comF_sup (WS' : StW S) (hC : ClsW S gg W) (r0 : 0 ≤ r) (r1 : r < 99) (r2 : S (150 + r) = 1) (rg : gg r.toNat = false) : ∀ (j : Nat) (f : Int) (w : WS), WsW w → 0 ≤ f → f + j = S 2 → SupW w W → w.2.1 = 0 → SupW (comF S gg r j f w) W ∧ (comF S gg r j f w).2.1 = 0
  | 0, _, _, _, _, _, h, h0 => ⟨h, h0⟩
  | j + 1, f, w, hw, f0, hf, h, h0 => by
    obtain ⟨a, b⟩ := com1_sup (gg := gg) WS' hw h h0 r0 r1 f0 (by omega) parS_rg.2 (hC r f r0 r1 r2 rg f0 (by omega))
    exact comF_sup WS' hC r0 r1 r2 rg j (f + 1) _ (com1_W WS' hw f0 (by omega) parS_rg.2) (by omega) (by omega) a b
theorem comF_fin (WS' : StW S) : ∀ (j : Nat) (f : Int) (w : WS), WsW w → 0 ≤ f → f + j = S 2 → FinW (comF S gg r j f w) → comF S gg r j f w = w ∧ ∀ k, f ≤ k → k < f + j → 0 ≤ parS S r k → Rul S (gg (parS S r k).toNat) r k (parS S r k) w.1
  | 0, f, w, _, _, _, _ => ⟨rfl, fun k _ _ => by omega⟩
  | j + 1, f, w, hw, f0, hf, h => by
    have hW1 := com1_W (r := r) (gg := gg) WS' hw f0 (by omega) (parS_rg (S := S) (r := r) (f := f)).2
    obtain ⟨a, b⟩ := comF_fin WS' j (f + 1) _ hW1 (by omega) (by omega) h
    have fin1 : FinW (com1 S gg r f (parS S r f) w) := by
      have h2 : FinW (comF S gg r j (f + 1) (com1 S gg r f (parS S r f) w)) := h
      rw [a] at h2
      exact h2
    obtain ⟨c, e⟩ := com1_fin WS' hw f0 (by omega) parS_rg.2 fin1
    have : comF S gg r (j + 1) f w = comF S gg r j (f + 1) (com1 S gg r f (parS S r f) w) := rfl
    refine ⟨by rw [this, a, c], fun k k0 k1 => ?_⟩
    by_cases hk : k = f
    · subst hk; exact e
    · have := b k (by omega) (by omega)
      rw [c] at this
      exact this
theorem comL_W (WS' : StW S) : ∀ (s : List Int) (w : WS), WsW w → WsW (comL S gg s w)
  | [], _, h => h
  | x :: s, w, h => comL_W WS' s _ (by
    split
    · exact h
    · exact comF_W WS' _ _ _ h (Int.le_refl _) (by have := WS'.n0; omega))
theorem comL_P (WS' : StW S) : ∀ (s : List Int) (w : WS), (∀ x ∈ s, 0 ≤ x ∧ x < 99) → WsW w → ph (comL S gg s w) ≤ ph w
  | [], _, _, _ => Nat.le_refl _
  | x :: s, w, hs, h => by
    have n2 := WS'.n0.2.2.1.1
    have hx := hs x List.mem_cons_self
    have key : WsW (if gg x.toNat = true then w else comF S gg x (S 2).toNat 0 w) ∧ ph (if gg x.toNat = true then w else comF S gg x (S 2).toNat 0 w) ≤ ph w := by
      split
      · exact ⟨h, Nat.le_refl _⟩
      · exact ⟨comF_W WS' _ _ _ h (Int.le_refl _) (by omega), comF_P WS' hx.1 hx.2 _ _ _ h (Int.le_refl _) (by omega)⟩
    exact Nat.le_trans (comL_P WS' s _ (fun y hy => hs y (List.mem_cons_of_mem _ hy)) key.1) key.2
theorem comL_sup (WS' : StW S) (hC : ClsW S gg W) : ∀ (s : List Int) (w : WS), (∀ x ∈ s, 0 ≤ x ∧ x < 99 ∧ S (150 + x) = 1) → WsW w → SupW w W → w.2.1 = 0 → SupW (comL S gg s w) W ∧ (comL S gg s w).2.1 = 0
  | [], _, _, _, h, h0 => ⟨h, h0⟩
  | x :: s, w, hs, hw, h, h0 => by
    have n2 := WS'.n0.2.2.1.1
    have hx := hs x List.mem_cons_self
    have key : WsW (if gg x.toNat = true then w else comF S gg x (S 2).toNat 0 w) ∧ SupW (if gg x.toNat = true then w else comF S gg x (S 2).toNat 0 w) W ∧ (if gg x.toNat = true then w else comF S gg x (S 2).toNat 0 w).2.1 = 0 := by
      cases hg : gg x.toNat with
      | true => rw [if_pos rfl]; exact ⟨hw, h, h0⟩
      | false =>
        rw [if_neg (by decide)]
        exact ⟨comF_W WS' _ _ _ hw (Int.le_refl _) (by omega), comF_sup WS' hC hx.1 hx.2.1 hx.2.2 hg _ _ _ hw (Int.le_refl _) (by omega) h h0⟩
    exact comL_sup WS' hC s _ (fun y hy => hs y (List.mem_cons_of_mem _ hy)) key.1 key.2.1 key.2.2
theorem comL_fin (WS' : StW S) : ∀ (s : List Int) (w : WS), WsW w → FinW (comL S gg s w) → comL S gg s w = w ∧ ∀ x ∈ s, gg x.toNat = false → ∀ k, 0 ≤ k → k < S 2 → 0 ≤ parS S x k → Rul S (gg (parS S x k).toNat) x k (parS S x k) w.1
  | [], w, _, _ => ⟨rfl, fun x hx => by cases hx⟩
  | x :: s, w, hw, h => by
    have n2 := WS'.n0.2.2.1.1
    have e : comL S gg (x :: s) w = comL S gg s (if gg x.toNat = true then w else comF S gg x (S 2).toNat 0 w) := rfl
    rw [e] at h ⊢
    cases hg : gg x.toNat with
    | true =>
      rw [hg, if_pos rfl] at h
      rw [if_pos rfl]
      obtain ⟨a, b⟩ := comL_fin WS' s w hw h
      refine ⟨a, fun y hy hgy => ?_⟩
      rcases List.mem_cons.mp hy with rfl | hy
      · rw [hg] at hgy; cases hgy
      · exact b y hy hgy
    | false =>
      rw [hg, if_neg (by decide)] at h
      rw [if_neg (by decide)]
      obtain ⟨a, b⟩ := comL_fin WS' s _ (comF_W WS' _ _ _ hw (Int.le_refl _) (by omega)) h
      rw [a] at h
      obtain ⟨c, e⟩ := comF_fin WS' _ _ _ hw (Int.le_refl _) (by omega) h
      refine ⟨by rw [a, c], fun y hy hgy => ?_⟩
      rcases List.mem_cons.mp hy with rfl | hy
      · exact fun k k0 k1 => e k k0 (by omega)
      · have := b y hy hgy
        rw [c] at this
        exact this
theorem com_pass (WS' : StW S) : PasW S gg (comL S gg (alv S 150 99 0)) := fun w hw => by
  have hs : ∀ x ∈ alv S 150 99 0, 0 ≤ x ∧ x < 99 ∧ S (150 + x) = 1 := fun x hx => by have := (alv_mem 99 0 x).mp hx; omega
  refine ⟨comL_W WS' _ _ hw, fun W hC h h0 => comL_sup WS' hC _ _ hs hw h h0, fun h => ?_, comL_ind (Pr := fun v => KepW w v) (fun v i x hv => hv.tr want1_keep) _ _ (fun _ _ => rfl), fun h => comL_ind (Pr := fun v => v.2.1 = 1) (fun v i x hv => want1_c1 hv) _ _ h, comL_P WS' _ _ (fun x hx => ⟨(hs x hx).1, (hs x hx).2.1⟩) hw⟩
  obtain ⟨a, b⟩ := comL_fin WS' _ _ hw h
  rw [a]
  exact fun r f r0 r1 r2 rg f0 f1 hp => b r ((alv_mem 99 0 r).mpr ⟨r0, by omega, r2⟩) rg f f0 f1 hp
/-- passes, as long as there is more -/
theorem itr_s {ps : WS → WS} {n : Nat} {w : WS} : itr ps (n + 1) w = if w.2.2 = 0 ∨ w.2.1 = 1 then w else itr ps n (ps (w.1, w.2.1, 0)) := rfl
theorem itr_lst {ps : WS → WS} (hp : PasW S gg ps) : ∀ (n : Nat) (w : WS), WsW w → w.2.2 = 1 → cu w.1 396 0 < n → (∀ W, ClsW S gg W → SupW w0 W → w.2.1 = 0 ∧ SupW w W) → KepW w0 w → LstW S gg w0 (itr ps n w) := by
  intro n
  induction n with
  | zero => intro w _ _ hn; exact absurd hn (Nat.not_lt_zero _)
  | succ n ih =>
    intro w hw hm hn hs hk
    rw [itr_s]
    by_cases hc : w.2.1 = 1
    · rw [if_pos (Or.inr hc)]
      exact ⟨hw, hs, fun z => by rw [hc] at z; exact absurd z (by decide)⟩
    · have h0 : w.2.1 = 0 := by rcases hw.2.1 with h | h; exact h; exact absurd h hc
      rw [if_neg (by rw [hm]; omega)]
      have hw1 : WsW (w.1, w.2.1, 0) := ⟨hw.1, hw.2.1, Or.inl rfl⟩
      obtain ⟨p1, p2, p3, p4, p5, p6⟩ := hp (w.1, w.2.1, 0) hw1
      have hk2 : KepW w0 (ps (w.1, w.2.1, 0)) := KepW.tr (w1 := (w.1, w.2.1, 0)) hk p4
      have hs2 : ∀ W, ClsW S gg W → SupW w0 W → (ps (w.1, w.2.1, 0)).2.1 = 0 ∧ SupW (ps (w.1, w.2.1, 0)) W := fun W hC h => by
        obtain ⟨a, b⟩ := hs W hC h
        obtain ⟨c, e⟩ := p2 W hC b a
        exact ⟨e, c⟩
      have e1 : ph (w.1, w.2.1, 0) = cu w.1 396 0 := by
        show cu w.1 396 0 + (if (0 : Int) = 1 then 1 else 0) = _
        rw [if_neg (by decide), Nat.add_zero]
      have e2 : ph (ps (w.1, w.2.1, 0)) = cu (ps (w.1, w.2.1, 0)).1 396 0 + (if (ps (w.1, w.2.1, 0)).2.2 = 1 then 1 else 0) := rfl
      generalize ps (w.1, w.2.1, 0) = v at *
      by_cases hm1 : v.2.2 = 1
      · rw [if_pos hm1] at e2
        exact ih v p1 hm1 (by omega) hs2 hk2
      · have hm0 : v.2.2 = 0 := by rcases p1.2.2 with h | h; exact h; exact absurd h hm1
        have : itr ps n v = v := by
          cases n with
          | zero => rfl
          | succ n => rw [itr_s, if_pos (Or.inl hm0)]
        rw [this]
        exact ⟨p1, hs2, fun z => ⟨p3 ⟨z, hm0⟩, fun i i0 i1 hi => (hk2 i hi).symm⟩⟩
theorem LstW.un (a : LstW S gg w0 w1) (b : LstW S gg w0 w2) : w1.2.1 = w2.2.1 ∧ (w1.2.1 = 0 → ∀ i, 0 ≤ i → i < 396 → w1.1 i = w2.1 i) := by
  obtain ⟨a1, a2, a3⟩ := a
  obtain ⟨b1, b2, b3⟩ := b
  have key : w1.2.1 = 0 ↔ w2.2.1 = 0 := ⟨fun h => by obtain ⟨x, y⟩ := a3 h; exact (b2 _ x y).1, fun h => by obtain ⟨x, y⟩ := b3 h; exact (a2 _ x y).1⟩
  refine ⟨by rcases a1.2.1 with h | h <;> rcases b1.2.1 with h' | h' <;> omega, fun h i i0 i1 => ?_⟩
  have h' := key.mp h
  obtain ⟨x, y⟩ := a3 h
  obtain ⟨x', y'⟩ := b3 h'
  have c1 := (b2 _ x y).2
  have c2 := (a2 _ x' y').2
  by_cases e : w1.1 i = -9
  · by_cases e2 : w2.1 i = -9
    · rw [e, e2]
    · exact (c1 i i0 i1 e2).symm
  · exact c2 i i0 i1 e
end
