/-! all that is not to be written stands; schemas by their numbers -/
noncomputable def Fz (B : Nat → Prop) (H : AH) : Nat → Option Cl := fun q => @ite _ (q < H.1 ∧ ¬ B q) (Classical.propDecidable _) (jm H q) none
section
variable {B P : Nat → Prop} {H H2 : AH} {q : Nat} {c : Cl} {F : Nat → Option Cl} {n : Int} {S S' nm : Int → Int}
theorem Fz_in (h1 : q < H.1) (h2 : ¬ B q) (h : jm H q = some c) : Fz B H q = some c := by
  unfold Fz
  rw [if_pos ⟨h1, h2⟩, h]
theorem Fz_out (h2 : B q) : Fz B H q = none := by
  unfold Fz
  rw [if_neg (fun z => z.2 h2)]
theorem Fz_F : Fzn (Fz B H) H := fun q c h => by
  unfold Fz at h
  by_cases hc : q < H.1 ∧ ¬ B q
  · rw [if_pos hc] at h; exact ⟨h, hc.1⟩
  · rw [if_neg hc] at h; cases h
theorem Fz_lt (h : Fz B H q = some c) : q < H.1 ∧ ¬ B q := by
  unfold Fz at h
  by_cases hc : q < H.1 ∧ ¬ B q
  · exact hc
  · rw [if_neg hc] at h; cases h
theorem Fz_sub (fr : Fr H H2 P) (hP : ∀ q, q < H.1 → P q → B q) : Sub (Fz B H) (Fz B H2) := fun q c h => by
  obtain ⟨a, b⟩ := Fz_lt h
  exact Fz_in (Nat.lt_of_lt_of_le a fr.1) b ((fr.2.2 q a fun z => b (hP q a z)).trans (Fz_F.m h))
theorem LstF.cg {Q R : Int → Nat → Prop} (h : LstF F q n Q) (hp : ∀ k b, 0 ≤ k → k < n → Q k b → R k b) : LstF F q n R := by
  obtain ⟨cap, mc, l, a, b, c, d, e⟩ := h
  refine ⟨cap, mc, l, a, b, c, d, fun k k0 k1 => ?_⟩
  obtain ⟨x, x1, x2⟩ := e k k0 k1
  exact ⟨x, x1, hp k x k0 k1 x2⟩
theorem SchF.cg (h : SchF F q S nm) (W : StW S) (e : ∀ i, 0 ≤ i → i < 148 → S' i = S i) : SchF F q S' nm := by
  obtain ⟨ln, qt, qk, qr, qc, a, b, c, d, f⟩ := h
  have N0 := W.n0
  refine ⟨ln, qt, qk, qr, qc, a, ?_, ?_, ?_, ?_⟩
  · rw [e 0 (by omega) (by omega)]
    refine b.cg fun k x k0 k1 hx => ?_
    obtain ⟨qn, qcs, qd, qb, a1, a2, a4, ⟨g, a5, a6⟩, wl, z, a7, a8, a9⟩ := hx
    refine ⟨qn, qcs, qd, qb, a1, a2, ?_, ⟨g, a5, fun j j0 j1 => by rw [a6 j j0 j1, e _ (by omega) (by omega)]⟩, wl, z, a7, a8, fun j j0 j1 => by rw [a9 j j0 j1, e _ (by omega) (by omega)]⟩
    rw [e _ (by omega) (by omega)]; exact a4
  · rw [e 1 (by omega) (by omega)]
    refine c.cg fun k x k0 k1 hx => ?_
    obtain ⟨ke, x1, x2⟩ := hx
    refine ⟨ke, ?_, ?_⟩
    · rw [e _ (by omega) (by omega)]; exact x1
    · rw [e (46 + k) (by omega) (by omega), e (52 + k) (by omega) (by omega)]; exact x2
  · rw [e 2 (by omega) (by omega)]
    refine d.cg fun k x k0 k1 hx => ?_
    obtain ⟨ke, x1, x2⟩ := hx
    refine ⟨ke, ?_, ?_⟩
    · rw [e (58 + k) (by omega) (by omega), e (82 + k) (by omega) (by omega), e (88 + k) (by omega) (by omega), e (94 + k) (by omega) (by omega), e (100 + k) (by omega) (by omega), e (106 + k) (by omega) (by omega)]; exact x1
    · rw [e (64 + k) (by omega) (by omega), e (70 + k) (by omega) (by omega)]; exact x2
  · rw [e 3 (by omega) (by omega)]
    refine f.cg fun k x k0 k1 hx => ?_
    unfold ChkF at hx ⊢
    rw [e (112 + k) (by omega) (by omega), e (118 + k) (by omega) (by omega), e (124 + k) (by omega) (by omega), e (136 + k) (by omega) (by omega), e (130 + k) (by omega) (by omega), e (142 + k) (by omega) (by omega)]; exact hx
theorem alv_cg {at_ bt : Int} : ∀ (n : Nat) (k : Int), (∀ i, k ≤ i → i < k + n → (S (at_ + i) = 1 ↔ S' (bt + i) = 1)) → alv S at_ n k = alv S' bt n k
  | 0, _, _ => rfl
  | n + 1, k, h => by
    have h0 := h k (Int.le_refl _) (by omega)
    simp only [alv]
    rw [alv_cg n (k + 1) fun i a b => h i (by omega) (by omega)]
    by_cases c : S (at_ + k) = 1
    · rw [if_pos c, if_pos (h0.mp c)]
    · rw [if_neg c, if_neg (fun z => c (h0.mpr z))]
theorem alv_flt {at_ : Int} {p : Int → Bool} : ∀ (n : Nat) (k : Int), (∀ i, k ≤ i → i < k + n → (S' (at_ + i) = 1 ↔ S (at_ + i) = 1 ∧ p i = true)) → alv S' at_ n k = (alv S at_ n k).filter p
  | 0, _, _ => rfl
  | n + 1, k, h => by
    have h0 := h k (Int.le_refl _) (by omega)
    simp only [alv]
    rw [alv_flt n (k + 1) fun i a b => h i (by omega) (by omega)]
    by_cases c : S (at_ + k) = 1
    · rw [if_pos c, List.filter_cons]
      by_cases c2 : p k = true
      · rw [if_pos c2, if_pos (h0.mpr ⟨c, c2⟩)]
      · rw [if_neg c2, if_neg (fun z => c2 (h0.mp z).2)]
    · rw [if_neg c, if_neg (fun z => c (h0.mp z).1)]
/-- one more behind the others -/
theorem alv_app {at_ r : Int} : ∀ (n : Nat) (k : Int), k ≤ r → r < k + n → (∀ i, k ≤ i → i < k + n → (S' (at_ + i) = 1 ↔ S (at_ + i) = 1 ∨ i = r)) → (∀ i, S (at_ + i) = 1 → k ≤ i → i < k + n → i < r) → alv S' at_ n k = alv S at_ n k ++ [r]
  | 0, k, h0, h1, _, _ => by omega
  | n + 1, k, h0, h1, h, hl => by
    have hk := h k (Int.le_refl _) (by omega)
    simp only [alv]
    by_cases hr : k = r
    · subst hr
      have n1 : ¬ S (at_ + k) = 1 := fun z => by have := hl k z (Int.le_refl _) (by omega); omega
      have e1 : ∀ (m : Nat) (j : Int), k < j → j + m ≤ k + (n + 1 : Nat) → alv S at_ m j = [] := by
        intro m
        induction m with
        | zero => intro j _ _; rfl
        | succ m ih =>
          intro j hj hm
          simp only [alv]
          rw [if_neg (fun z => by have := hl j z (by omega) (by omega); omega), ih (j + 1) (by omega) (by omega)]
      have e2 : ∀ (m : Nat) (j : Int), k < j → j + m ≤ k + (n + 1 : Nat) → alv S' at_ m j = [] := by
        intro m
        induction m with
        | zero => intro j _ _; rfl
        | succ m ih =>
          intro j hj hm
          have hj2 := h j (by omega) (by omega)
          simp only [alv]
          rw [if_neg (fun z => by rcases hj2.mp z with z | z; have := hl j z (by omega) (by omega); omega; omega), ih (j + 1) (by omega) (by omega)]
      rw [if_pos (hk.mpr (Or.inr rfl)), if_neg n1, e1 n (k + 1) (by omega) (by omega), e2 n (k + 1) (by omega) (by omega)]
      rfl
    · have ih := alv_app n (k + 1) (by omega) (by omega) (fun i a b => h i (by omega) (by omega)) (fun i z a b => hl i z (by omega) (by omega))
      rw [ih]
      by_cases c : S (at_ + k) = 1
      · rw [if_pos c, if_pos (hk.mpr (Or.inl c))]; rfl
      · rw [if_neg c, if_neg (fun z => by rcases hk.mp z with z | z; exact c z; exact hr z)]
end
/-! wants that agree where the rows are -/
def AgR (w v : WS) : Prop := ∀ i, 0 ≤ i → i < 396 → w.1 i = v.1 i
section
variable {S L : Int → Int} {w v : WS} {to : Int} {g : Nat → Bool}
theorem want1_ag {i x : Int} (h : AgR w v) (h2 : w.2.1 = v.2.1) (i0 : 0 ≤ i) (i1 : i < 396) : AgR (want1 w i x) (want1 v i x) ∧ (want1 w i x).2.1 = (want1 v i x).2.1 := by
  have hi := h i i0 i1
  unfold want1
  by_cases e : w.1 i = -9
  · rw [if_pos e, if_pos (show v.1 i = -9 by rw [← hi]; exact e)]
    refine ⟨fun j j0 j1 => ?_, h2⟩
    show fset w.1 i x j = fset v.1 i x j
    by_cases hj : j = i
    · rw [hj, fset_eq, fset_eq]
    · rw [fset_ne hj, fset_ne hj]; exact h j j0 j1
  · rw [if_neg e, if_neg (show ¬ v.1 i = -9 by rw [← hi]; exact e)]
    refine ⟨h, ?_⟩
    show (if w.2.1 = 0 ∧ w.1 i = x then (0 : Int) else 1) = (if v.2.1 = 0 ∧ v.1 i = x then (0 : Int) else 1)
    rw [h2, hi]
theorem setW_ag {r : Int} (hS : SeW S L to) (c4 : S (4 + L (to + 1)) ≤ 4) (r0 : 0 ≤ r) (r1 : r < 99) : ∀ (j : Nat) (k : Int) (w v : WS), 0 ≤ k → k + j = L (to + 2) → AgR w v → w.2.1 = v.2.1 → AgR (setW L to r j k w) (setW L to r j k v) ∧ (setW L to r j k w).2.1 = (setW L to r j k v).2.1
  | 0, _, _, _, _, _, h, h2 => ⟨h, h2⟩
  | j + 1, k, w, v, k0, hk, h, h2 => by
    have := hS.2 k k0 (by omega)
    obtain ⟨a, b⟩ := want1_ag (i := 4 * r + L (to + 3 + 2 * k)) (x := L (to + 4 + 2 * k)) h h2 (by omega) (by omega)
    exact setW_ag hS c4 r0 r1 j (k + 1) _ _ (by omega) (by omega) a b
theorem setL_ag (hS : SeW S L to) (c4 : S (4 + L (to + 1)) ≤ 4) : ∀ (s : List Int) (w v : WS), (∀ x ∈ s, 0 ≤ x ∧ x < 99) → AgR w v → w.2.1 = v.2.1 → AgR (setL L to s w) (setL L to s v) ∧ (setL L to s w).2.1 = (setL L to s v).2.1
  | [], _, _, _, h, h2 => ⟨h, h2⟩
  | x :: s, w, v, hs, h, h2 => by
    have hx := hs x List.mem_cons_self
    obtain ⟨a, b⟩ := setW_ag hS c4 hx.1 hx.2 (L (to + 2)).toNat 0 w v (Int.le_refl _) (by have := hS.1; omega) h h2
    exact setL_ag hS c4 s _ _ (fun y hy => hs y (List.mem_cons_of_mem _ hy)) a b
theorem LstW.ag {w' : WS} (h : AgR w v) (hl : LstW S g w w') : LstW S g v w' := by
  obtain ⟨a, b, c⟩ := hl
  have key : ∀ W, SupW v W → SupW w W := fun W hs i i0 i1 hi => by rw [h i i0 i1] at hi ⊢; exact hs i i0 i1 hi
  refine ⟨a, fun W hC hs => b W hC (key W hs), fun z => ⟨(c z).1, fun i i0 i1 hi => ?_⟩⟩
  rw [← h i i0 i1] at hi ⊢
  exact (c z).2 i i0 i1 hi
theorem isOth_ag {r c : Int} (h : AgR w v) (r0 : 0 ≤ r) (r1 : r < 99) (c0 : 0 ≤ c) (c1 : c < 4) : isOth S w r c = isOth S v r c := by
  unfold isOth
  rw [h _ (by omega) (by omega)]
theorem chB_ag (W : StW S) {r : Int} (h : AgR w v) (r0 : 0 ≤ r) (r1 : r < 99) : chB S w r = chB S v r := by
  have TA := W.ta r0 r1
  have CO := W.co TA.1 TA.2
  have key : ∀ (j : Nat) (k : Int), 0 ≤ k → k + j ≤ 4 → anyF (fun c => isOth S w r c) j k = anyF (fun c => isOth S v r c) j k := by
    intro j
    induction j with
    | zero => intro k _ _; rfl
    | succ j ih => intro k k0 hk; simp only [anyF]; rw [isOth_ag h r0 r1 k0 (by omega), ih (k + 1) (by omega) (by omega)]
  exact key _ 0 (Int.le_refl _) (by omega)
theorem chgL_ag (W : StW S) (h : AgR w v) : ∀ (s : List Int), (∀ x ∈ s, 0 ≤ x ∧ x < 99) → chgL S g w s = chgL S g v s
  | [], _ => rfl
  | x :: s, hs => by
    have hx := hs x List.mem_cons_self
    simp only [chgL]
    rw [chB_ag W h hx.1 hx.2, chgL_ag W h s fun y hy => hs y (List.mem_cons_of_mem _ hy)]
theorem anyF_no {F : Int → Bool} : ∀ (j : Nat) (k : Int), anyF F j k = false → ∀ i, k ≤ i → i < k + j → F i = false
  | 0, k, _, i, a, b => by omega
  | j + 1, k, h, i, a, b => by
    simp only [anyF, Bool.or_eq_false_iff] at h
    by_cases e : i = k
    · rw [e]; exact h.1
    · exact anyF_no j (k + 1) h.2 i (by omega) (by omega)
end
