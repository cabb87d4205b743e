/-! H-LEVEL: the interpreter once more, collections of the library as single cells. A tag from 200 to 999: a pseudo-cell -/
def psT (t : Nat) : Bool := Nat.ble 200 t && Nat.blt t 1000
def cAL (cap : Nat) (mc : Int32) (l : List Value) : Cl := (243, l.length, jL (.ref cap :: .int mc :: l))
def cBS (wl : Nat) (s : Nat → Bool) : Cl := (244, wl, fun k => .int (if s k = true then 1 else 0))
def cDQ (cap hd : Nat) (l : List Value) : Cl := (263, l.length, jL (.ref cap :: .ref hd :: l))
def cSB (cap : Nat) (b : List Int) : Cl := (249, b.length, jL (.ref cap :: b.map fun z => .int (zI z)))
/-- a string's bytes -/
def StrAt (H : AH) (a : Nat) (b : List Int) : Prop := ∃ (t e te : Nat) (f g : Nat → Value), (jm H a = some (t, 4, f) ∧ (t = 50 ∨ t = 150) ∧ f 0 = .ref e ∧ f 1 = .int 0) ∧ jm H e = some (te, b.length, g) ∧ (te = 1010 ∨ te = 1011) ∧ (∀ k, k < b.length → g k = .int (zI (b.getD k 0))) ∧ (∀ z ∈ b, 0 ≤ z ∧ z < 128) ∧ b.length < 100000
theorem jL_inj {l l' : List Value} (h1 : l.length = l'.length) (h2 : jL l = jL l') : l = l' := by
  refine List.ext_getElem h1 fun i a b => ?_
  have := congrFun h2 i
  simp only [jL] at this
  rwa [List.getD_eq_getElem?_getD, List.getD_eq_getElem?_getD, List.getElem?_eq_getElem a, List.getElem?_eq_getElem b] at this
theorem cAL_inj {c c' : Nat} {m m' : Int32} {l l' : List Value} (h : cAL c m l = cAL c' m' l') : c = c' ∧ m = m' ∧ l = l' := by
  simp only [cAL, Prod.mk.injEq, true_and] at h
  have := jL_inj (by simp [h.1]) h.2
  simp only [List.cons.injEq, Value.ref.injEq, Value.int.injEq] at this
  exact this
theorem cDQ_inj {c c' d d' : Nat} {l l' : List Value} (h : cDQ c d l = cDQ c' d' l') : c = c' ∧ d = d' ∧ l = l' := by
  simp only [cDQ, Prod.mk.injEq, true_and] at h
  have := jL_inj (by simp [h.1]) h.2
  simp only [List.cons.injEq, Value.ref.injEq] at this
  exact this
theorem cBS_inj {c c' : Nat} {s s' : Nat → Bool} (h : cBS c s = cBS c' s') : c = c' ∧ s = s' := by
  simp only [cBS, Prod.mk.injEq, true_and] at h
  refine ⟨h.1, funext fun k => ?_⟩
  have := congrFun h.2 k
  simp only [Value.int.injEq] at this
  cases h1 : s k <;> cases h2 : s' k <;> simp [h1, h2] at this ⊢
/-- bytes of a builder: from 0 to 127 -/
def SbW (b : List Int) : Prop := ∀ z ∈ b, 0 ≤ z ∧ z < 128
theorem zI_inj {a b : Int} (h : zI a = zI b) (a1 : -2147483648 ≤ a) (a2 : a < 2147483648) (b1 : -2147483648 ≤ b) (b2 : b < 2147483648) : a = b := by rwa [zI_eq a1 a2 b1 b2] at h
theorem mapI_inj : ∀ {b b' : List Int}, SbW b → SbW b' → (b.map fun z => (Value.int (zI z) : Value)) = (b'.map fun z => (Value.int (zI z) : Value)) → b = b'
  | [], [], _, _, _ => rfl
  | [], _ :: _, _, _, h => by simp at h
  | _ :: _, [], _, _, h => by simp at h
  | x :: b, y :: b', h1, h2, h => by
    simp only [List.map_cons, List.cons.injEq, Value.int.injEq] at h
    have a := h1 x (List.mem_cons_self)
    have c := h2 y (List.mem_cons_self)
    rw [zI_inj h.1 (by omega) (by omega) (by omega) (by omega), mapI_inj (fun z hz => h1 z (List.mem_cons_of_mem _ hz)) (fun z hz => h2 z (List.mem_cons_of_mem _ hz)) h.2]
theorem cSB_inj {c c' : Nat} {b b' : List Int} (h1 : SbW b) (h2 : SbW b') (h : cSB c b = cSB c' b') : c = c' ∧ b = b' := by
  simp only [cSB, Prod.mk.injEq, true_and] at h
  have := jL_inj (by simp [h.1]) h.2
  simp only [List.cons.injEq, Value.ref.injEq] at this
  exact ⟨this.1, mapI_inj h1 h2 this.2⟩
theorem StrAt.un {H : AH} {a : Nat} {b b' : List Int} (h1 : StrAt H a b) (h2 : StrAt H a b') : b = b' := by
  obtain ⟨t, e, te, f, g, ⟨x1, -, x2, -⟩, x3, -, x4, x5, -⟩ := h1
  obtain ⟨t', e', te', f', g', ⟨y1, -, y2, -⟩, y3, -, y4, y5, -⟩ := h2
  rw [x1] at y1
  simp only [Option.some.injEq, Prod.mk.injEq] at y1
  obtain ⟨-, -, rfl⟩ := y1
  rw [x2] at y2
  cases y2
  rw [x3] at y3
  simp only [Option.some.injEq, Prod.mk.injEq] at y3
  obtain ⟨-, hl, rfl⟩ := y3
  refine List.ext_getElem hl fun i p q => ?_
  have u := x4 i p
  rw [y4 i q] at u
  simp only [Value.int.injEq] at u
  rw [List.getD_eq_getElem?_getD, List.getD_eq_getElem?_getD, List.getElem?_eq_getElem p, List.getElem?_eq_getElem q] at u
  simp only [Option.getD_some] at u
  have v := x5 _ (List.getElem_mem p)
  have w := y5 _ (List.getElem_mem q)
  exact (zI_inj u (by omega) (by omega) (by omega) (by omega)).symm
/-! looked at as what they are -/
noncomputable def wX {α β : Type} (P : α → Prop) (κ : α → Option β) : Option β := @dite _ (∃ x, P x) (Classical.propDecidable _) (fun h => κ h.choose) (fun _ => none)
theorem wX_eq {α β : Type} {P : α → Prop} {κ : α → Option β} {x : α} (hx : P x) (hu : ∀ y, P y → y = x) : wX P κ = κ x := by
  unfold wX
  have h : ∃ x, P x := ⟨x, hx⟩
  rw [dif_pos h, hu _ h.choose_spec]
theorem wX_inv {α β : Type} {P : α → Prop} {κ : α → Option β} {r : β} (h : wX P κ = some r) : ∃ x, P x ∧ κ x = some r := by
  unfold wX at h
  by_cases hx : ∃ x, P x
  · rw [dif_pos hx] at h; exact ⟨_, hx.choose_spec, h⟩
  · rw [dif_neg hx] at h; cases h
noncomputable def wIf {β : Type} (p : Prop) (r : Option β) : Option β := @ite _ p (Classical.propDecidable _) r none
theorem wIf_eq {β : Type} {p : Prop} {r : Option β} (h : p) : wIf p r = r := by unfold wIf; rw [if_pos h]
theorem wIf_inv {β : Type} {p : Prop} {r : Option β} {x : β} (h : wIf p r = some x) : p ∧ r = some x := by
  unfold wIf at h
  by_cases hp : p
  · rw [if_pos hp] at h; exact ⟨hp, h⟩
  · rw [if_neg hp] at h; cases h
def jburn (H : AH) (k s : Nat) : AH := (H.1 + k, H.2.1 + s, H.2.2.1, H.2.2.2)
/-- what may lie in a list -/
def okE (H : AH) (v : Value) : Prop := v = .null ∨ ∃ b c, v = .ref b ∧ jm H b = some c ∧ c.1 < 1000
def alCap (cap : Nat) : Nat := if cap = 0 then 10 else cap + max 1 (cap / 2)
def dqCap (cap : Nat) : Nat := cap + (if cap < 64 then cap + 2 else cap / 2)
def sbCap (cap n : Nat) : Nat := if n ≤ cap then cap else cap + max (n - cap) (cap + 2)
def sbGrow (H : AH) (cap n : Nat) : AH := if n ≤ cap then H else jburn H 1 (sbCap cap n)
abbrev isAL (H : AH) (a : Nat) (x : Nat × Int32 × List Value) : Prop := jm H a = some (cAL x.1 x.2.1 x.2.2)
abbrev isBS (H : AH) (a : Nat) (x : Nat × (Nat → Bool)) : Prop := jm H a = some (cBS x.1 x.2)
abbrev isDQ (H : AH) (a : Nat) (x : Nat × Nat × List Value) : Prop := jm H a = some (cDQ x.1 x.2.1 x.2.2)
abbrev isSB (H : AH) (a : Nat) (x : Nat × List Int) : Prop := jm H a = some (cSB x.1 x.2) ∧ SbW x.2
noncomputable def wAL (H : AH) (a : Nat) (κ : Nat → Int32 → List Value → Rz) : Rz := wX (isAL H a) fun x => κ x.1 x.2.1 x.2.2
noncomputable def wBS (H : AH) (a : Nat) (κ : Nat → (Nat → Bool) → Rz) : Rz := wX (isBS H a) fun x => κ x.1 x.2
noncomputable def wDQ (H : AH) (a : Nat) (κ : Nat → Nat → List Value → Rz) : Rz := wX (isDQ H a) fun x => κ x.1 x.2.1 x.2.2
noncomputable def wSB (H : AH) (a : Nat) (κ : Nat → List Int → Rz) : Rz := wX (isSB H a) fun x => κ x.1 x.2
noncomputable def wSt (H : AH) (a : Nat) (κ : List Int → Rz) : Rz := wX (StrAt H a) κ
section
variable {H : AH} {a cap hd wl : Nat} {mc : Int32} {l : List Value} {b : List Int} {s : Nat → Bool}
theorem wAL_eq {κ : Nat → Int32 → List Value → Rz} (h : jm H a = some (cAL cap mc l)) : wAL H a κ = κ cap mc l :=
  wX_eq (P := isAL H a) (κ := fun x => κ x.1 x.2.1 x.2.2) (x := (cap, mc, l)) h fun y hy => by
    obtain ⟨h1, h2, h3⟩ := cAL_inj (Option.some.inj (hy.symm.trans h))
    obtain ⟨y1, y2, y3⟩ := y
    simp only at h1 h2 h3
    subst h1; subst h2; subst h3; rfl
theorem wDQ_eq {κ : Nat → Nat → List Value → Rz} (h : jm H a = some (cDQ cap hd l)) : wDQ H a κ = κ cap hd l :=
  wX_eq (P := isDQ H a) (κ := fun x => κ x.1 x.2.1 x.2.2) (x := (cap, hd, l)) h fun y hy => by
    obtain ⟨h1, h2, h3⟩ := cDQ_inj (Option.some.inj (hy.symm.trans h))
    obtain ⟨y1, y2, y3⟩ := y
    simp only at h1 h2 h3
    subst h1; subst h2; subst h3; rfl
theorem wBS_eq {κ : Nat → (Nat → Bool) → Rz} (h : jm H a = some (cBS wl s)) : wBS H a κ = κ wl s :=
  wX_eq (P := isBS H a) (κ := fun x => κ x.1 x.2) (x := (wl, s)) h fun y hy => by
    obtain ⟨h1, h2⟩ := cBS_inj (Option.some.inj (hy.symm.trans h))
    obtain ⟨y1, y2⟩ := y
    simp only at h1 h2
    subst h1; subst h2; rfl
theorem wSB_eq {κ : Nat → List Int → Rz} (h : jm H a = some (cSB cap b)) (hb : SbW b) : wSB H a κ = κ cap b :=
  wX_eq (P := isSB H a) (κ := fun x => κ x.1 x.2) (x := (cap, b)) ⟨h, hb⟩ fun y hy => by
    obtain ⟨h1, h2⟩ := cSB_inj hy.2 hb (Option.some.inj (hy.1.symm.trans h))
    obtain ⟨y1, y2⟩ := y
    simp only at h1 h2
    subst h1; subst h2; rfl
theorem wSt_eq {κ : List Int → Rz} (h : StrAt H a b) : wSt H a κ = κ b := wX_eq h fun _ hy => hy.un h
theorem wAL_inv {κ : Nat → Int32 → List Value → Rz} {r : Out × AH} (h : wAL H a κ = some r) : ∃ cap mc l, jm H a = some (cAL cap mc l) ∧ κ cap mc l = some r := by
  obtain ⟨⟨x, y, z⟩, h1, h2⟩ := wX_inv h; exact ⟨x, y, z, h1, h2⟩
theorem wDQ_inv {κ : Nat → Nat → List Value → Rz} {r : Out × AH} (h : wDQ H a κ = some r) : ∃ cap hd l, jm H a = some (cDQ cap hd l) ∧ κ cap hd l = some r := by
  obtain ⟨⟨x, y, z⟩, h1, h2⟩ := wX_inv h; exact ⟨x, y, z, h1, h2⟩
theorem wBS_inv {κ : Nat → (Nat → Bool) → Rz} {r : Out × AH} (h : wBS H a κ = some r) : ∃ wl s, jm H a = some (cBS wl s) ∧ κ wl s = some r := by
  obtain ⟨⟨x, y⟩, h1, h2⟩ := wX_inv h; exact ⟨x, y, h1, h2⟩
theorem wSB_inv {κ : Nat → List Int → Rz} {r : Out × AH} (h : wSB H a κ = some r) : ∃ cap b, jm H a = some (cSB cap b) ∧ SbW b ∧ κ cap b = some r := by
  obtain ⟨⟨x, y⟩, ⟨h1, h3⟩, h2⟩ := wX_inv h; exact ⟨x, y, h1, h3, h2⟩
theorem wSt_inv {κ : List Int → Rz} {r : Out × AH} (h : wSt H a κ = some r) : ∃ b, StrAt H a b ∧ κ b = some r := wX_inv h
end
/-! what the library's methods do with such cells -/
def rV (v : Value) (H : AH) : Rz := some (.inl (some v), H)
def rN (H : AH) : Rz := some (.inl none, H)
def bI (b : Bool) : Value := .int (if b = true then 1 else 0)
noncomputable def pALnew (as : List Value) (H : AH) : Rz := match as with
  | [.ref a] => wIf (jm H a = some (43, 3, jL [.int 0, .null, .int 0])) (rN (jset H a (cAL 0 0 [])))
  | _ => none
noncomputable def pALnewC (as : List Value) (H : AH) : Rz := match as with
  | [.ref a, .int i] => wIf (jm H a = some (43, 3, jL [.int 0, .null, .int 0]) ∧ 0 < i.toInt ∧ i.toInt < 100000) (rN (jset (jburn H 1 i.toInt.toNat) a (cAL i.toInt.toNat 0 [])))
  | _ => none
noncomputable def pALadd (as : List Value) (H : AH) : Rz := match as with
  | [.ref a, v] => wAL H a fun cap mc l => wIf (okE H v ∧ cap < 100000) (if l.length < cap then rV (.int 1) (jset H a (cAL cap (mc + 1) (l ++ [v]))) else rV (.int 1) (jset (jburn H 1 (alCap cap)) a (cAL (alCap cap) (mc + 1) (l ++ [v]))))
  | _ => none
noncomputable def pALclear (as : List Value) (H : AH) : Rz := match as with
  | [.ref a] => wAL H a fun cap mc _ => wIf (cap < 100000) (rN (jset H a (cAL cap (mc + 1) [])))
  | _ => none
noncomputable def pALget (as : List Value) (H : AH) : Rz := match as with
  | [.ref a, .int i] => wAL H a fun cap _ l => wIf (cap < 100000 ∧ 0 ≤ i.toInt ∧ i.toInt < l.length) (rV (l.getD i.toInt.toNat .null) H)
  | _ => none
noncomputable def pALset (as : List Value) (H : AH) : Rz := match as with
  | [.ref a, .int i, v] => wAL H a fun cap mc l => wIf (cap < 100000 ∧ okE H v ∧ 0 ≤ i.toInt ∧ i.toInt < l.length) (rV (l.getD i.toInt.toNat .null) (jset H a (cAL cap mc (l.set i.toInt.toNat v))))
  | _ => none
noncomputable def pALsize (as : List Value) (H : AH) : Rz := match as with
  | [.ref a] => wAL H a fun _ _ l => rV (.int (zI l.length)) H
  | _ => none
noncomputable def pALempty (as : List Value) (H : AH) : Rz := match as with
  | [.ref a] => wAL H a fun cap _ l => wIf (cap < 100000) (rV (bI l.isEmpty) H)
  | _ => none
/-- the first of some strings that is like another -/
def fstS (b : List Int) : List (List Int) → Nat → Int
  | [], _ => -1
  | x :: r, k => if x = b then k else fstS b r (k + 1)
def AllS (H : AH) (l : List Value) (L : List (List Int)) : Prop := l.length = L.length ∧ ∀ k, k < L.length → ∃ q, l.getD k .null = .ref q ∧ StrAt H q (L.getD k [])
theorem AllS.un {H : AH} {l : List Value} {L L' : List (List Int)} (h1 : AllS H l L) (h2 : AllS H l L') : L = L' := by
  have hl : L.length = L'.length := h1.1.symm.trans h2.1
  refine List.ext_getElem hl fun i p q => ?_
  obtain ⟨x, x1, x2⟩ := h1.2 i p
  obtain ⟨y, y1, y2⟩ := h2.2 i q
  rw [x1] at y1
  cases y1
  have := x2.un y2
  rwa [List.getD_eq_getElem?_getD, List.getD_eq_getElem?_getD, List.getElem?_eq_getElem p, List.getElem?_eq_getElem q] at this
noncomputable def wLs (H : AH) (l : List Value) (κ : List (List Int) → Rz) : Rz := wX (AllS H l) κ
theorem wLs_eq {H : AH} {l : List Value} {L : List (List Int)} {κ : List (List Int) → Rz} (h : AllS H l L) : wLs H l κ = κ L := wX_eq h fun _ hy => hy.un h
noncomputable def pALindex (as : List Value) (H : AH) : Rz := match as with
  | [.ref a, .ref b] => wAL H a fun cap _ l => wIf (cap < 100000) (wSt H b fun s => wLs H l fun L => rV (.int (zI (fstS s L 0))) H)
  | _ => none
noncomputable def pALiter (as : List Value) (H : AH) : Rz := match as with
  | [.ref a] => wAL H a fun _ mc _ => rV (.ref H.1) (jpush H (67, 4, jL [.int 0, .int (-1), .int mc, .ref a]))
  | _ => none
/-- an iterator of a list: at place k; lr: of what was looked at last -/
abbrev isIt (H : AH) (q : Nat) (x : Int × Int × Int32 × Nat) : Prop := jm H q = some (67, 4, jL [.int (zI x.1), .int (zI x.2.1), .int x.2.2.1, .ref x.2.2.2]) ∧ 0 ≤ x.1 ∧ x.1 < 100000 ∧ -1 ≤ x.2.1 ∧ x.2.1 < 100000
noncomputable def wIt (H : AH) (q : Nat) (κ : Int → Int → Int32 → Nat → Rz) : Rz := wX (isIt H q) fun x => κ x.1 x.2.1 x.2.2.1 x.2.2.2
theorem wIt_eq {H : AH} {q : Nat} {i lr : Int} {mc : Int32} {a : Nat} {κ : Int → Int → Int32 → Nat → Rz} (h : jm H q = some (67, 4, jL [.int (zI i), .int (zI lr), .int mc, .ref a])) (i0 : 0 ≤ i) (i1 : i < 100000) (r0 : -1 ≤ lr) (r1 : lr < 100000) : wIt H q κ = κ i lr mc a :=
  wX_eq (P := isIt H q) (κ := fun x => κ x.1 x.2.1 x.2.2.1 x.2.2.2) (x := (i, lr, mc, a)) ⟨h, i0, i1, r0, r1⟩ fun y hy => by
    obtain ⟨y1, y2, y3, y4⟩ := y
    obtain ⟨e, a1, a2, a3, a4⟩ := hy
    simp only at e a1 a2 a3 a4
    rw [h] at e
    simp only [Option.some.injEq, Prod.mk.injEq, true_and] at e
    have := jL_inj (by rfl) e
    simp only [List.cons.injEq, Value.int.injEq, Value.ref.injEq, and_true] at this
    obtain ⟨b1, b2, b3, b4⟩ := this
    rw [zI_inj b1 (by omega) (by omega) (by omega) (by omega), zI_inj b2 (by omega) (by omega) (by omega) (by omega), b3, b4]
noncomputable def pIThas (as : List Value) (H : AH) : Rz := match as with
  | [.ref q] => wIt H q fun i _ _ a => wAL H a fun cap _ l => wIf (cap < 100000) (rV (bI (decide (i ≠ l.length))) H)
  | _ => none
noncomputable def pITnext (as : List Value) (H : AH) : Rz := match as with
  | [.ref q] => wIt H q fun i _ m a => wAL H a fun cap mc l => wIf (cap < 100000 ∧ m = mc ∧ i < l.length) (rV (l.getD i.toNat .null) (jset H q (67, 4, jL [.int (zI (i + 1)), .int (zI i), .int m, .ref a])))
  | _ => none
noncomputable def pITrem (as : List Value) (H : AH) : Rz := match as with
  | [.ref q] => wIt H q fun _ lr m a => wAL H a fun cap mc l => wIf (cap < 100000 ∧ m = mc ∧ 0 ≤ lr ∧ lr < l.length ∧ q ≠ a) (rN (jset (jset H a (cAL cap (mc + 1) (l.eraseIdx lr.toNat))) q (67, 4, jL [.int (zI lr), .int (zI (-1)), .int (mc + 1), .ref a])))
  | _ => none
noncomputable def pBSnew (as : List Value) (H : AH) : Rz := match as with
  | [.ref a] => wIf (jm H a = some (44, 3, jL [.null, .int 0, .int 0])) (rN (jset (jburn H 1 1) a (cBS 1 fun _ => false)))
  | _ => none
noncomputable def pBSset (as : List Value) (H : AH) : Rz := match as with
  | [.ref a, .int i] => wBS H a fun wl s => wIf (wl < 100000 ∧ 0 ≤ i.toInt ∧ i.toInt < 100000) (if i.toInt.toNat / 64 < wl then rN (jset H a (cBS wl fun k => decide (k = i.toInt.toNat) || s k)) else rN (jset (jburn H 1 (max (2 * wl) (i.toInt.toNat / 64 + 1))) a (cBS (max (2 * wl) (i.toInt.toNat / 64 + 1)) fun k => decide (k = i.toInt.toNat) || s k)))
  | _ => none
noncomputable def pBSget (as : List Value) (H : AH) : Rz := match as with
  | [.ref a, .int i] => wBS H a fun wl s => wIf (wl < 100000 ∧ 0 ≤ i.toInt) (rV (bI (s i.toInt.toNat)) H)
  | _ => none
noncomputable def pBSclear (as : List Value) (H : AH) : Rz := match as with
  | [.ref a] => wBS H a fun wl _ => wIf (wl < 100000) (rN (jset H a (cBS wl fun _ => false)))
  | _ => none
/-- the next place from k on, within n places -/
def nxtB (s : Nat → Bool) : Nat → Nat → Int
  | 0, _ => -1
  | n + 1, k => if s k = true then k else nxtB s n (k + 1)
def cntB (s : Nat → Bool) : Nat → Nat → Nat
  | 0, _ => 0
  | n + 1, k => (if s k = true then 1 else 0) + cntB s n (k + 1)
noncomputable def pBSnext (as : List Value) (H : AH) : Rz := match as with
  | [.ref a, .int i] => wBS H a fun wl s => wIf (wl < 100000 ∧ 0 ≤ i.toInt) (rV (.int (zI (nxtB s (64 * wl - i.toInt.toNat) i.toInt.toNat))) H)
  | _ => none
noncomputable def pBScard (as : List Value) (H : AH) : Rz := match as with
  | [.ref a] => wBS H a fun wl s => wIf (wl < 100000) (rV (.int (zI (cntB s (64 * wl) 0))) H)
  | _ => none
noncomputable def pDQnew (as : List Value) (H : AH) : Rz := match as with
  | [.ref a] => wIf (jm H a = some (63, 3, jL [.null, .int 0, .int 0])) (rN (jset (jburn H 1 17) a (cDQ 17 0 [])))
  | _ => none
noncomputable def pDQadd (as : List Value) (H : AH) : Rz := match as with
  | [.ref a, v] => wDQ H a fun cap hd l => wIf (okE H v ∧ v ≠ .null ∧ cap < 100000) (if l.length + 1 < cap then rN (jset H a (cDQ cap hd (l ++ [v]))) else rN (jset (jburn H 1 (dqCap cap)) a (cDQ (dqCap cap) (hd + (dqCap cap - cap)) (l ++ [v]))))
  | _ => none
noncomputable def pDQempty (as : List Value) (H : AH) : Rz := match as with
  | [.ref a] => wDQ H a fun cap _ l => wIf (cap < 100000) (rV (bI l.isEmpty) H)
  | _ => none
noncomputable def pDQsize (as : List Value) (H : AH) : Rz := match as with
  | [.ref a] => wDQ H a fun cap _ l => wIf (cap < 100000) (rV (.int (zI l.length)) H)
  | _ => none
noncomputable def pDQpoll (as : List Value) (H : AH) : Rz := match as with
  | [.ref a] => wDQ H a fun cap hd l => wIf (cap < 100000 ∧ l ≠ []) (rV (l.getD 0 .null) (jset H a (cDQ cap (if hd + 1 = cap then 0 else hd + 1) l.tail)))
  | _ => none
noncomputable def pDQiter (as : List Value) (H : AH) : Rz := match as with
  | [.ref a] => wDQ H a fun cap hd l => wIf (cap < 100000) (rV (.ref H.1) (jpush H (64, 4, jL [.int (zI hd), .int (zI l.length), .int (-1), .ref a])))
  | _ => none
/-- an iterator of a deque, k elements seen -/
abbrev isDi (H : AH) (q : Nat) (x : Int × Int × Int32 × Nat) : Prop := jm H q = some (64, 4, jL [.int (zI x.1), .int (zI x.2.1), .int x.2.2.1, .ref x.2.2.2]) ∧ 0 ≤ x.1 ∧ x.1 < 100000 ∧ 0 ≤ x.2.1 ∧ x.2.1 < 100000
noncomputable def wDi (H : AH) (q : Nat) (κ : Int → Int → Int32 → Nat → Rz) : Rz := wX (isDi H q) fun x => κ x.1 x.2.1 x.2.2.1 x.2.2.2
theorem wDi_eq {H : AH} {q : Nat} {i n : Int} {lr : Int32} {a : Nat} {κ : Int → Int → Int32 → Nat → Rz} (h : jm H q = some (64, 4, jL [.int (zI i), .int (zI n), .int lr, .ref a])) (i0 : 0 ≤ i) (i1 : i < 100000) (r0 : 0 ≤ n) (r1 : n < 100000) : wDi H q κ = κ i n lr a :=
  wX_eq (P := isDi H q) (κ := fun x => κ x.1 x.2.1 x.2.2.1 x.2.2.2) (x := (i, n, lr, a)) ⟨h, i0, i1, r0, r1⟩ fun y hy => by
    obtain ⟨y1, y2, y3, y4⟩ := y
    obtain ⟨e, a1, a2, a3, a4⟩ := hy
    simp only at e a1 a2 a3 a4
    rw [h] at e
    simp only [Option.some.injEq, Prod.mk.injEq, true_and] at e
    have := jL_inj (by rfl) e
    simp only [List.cons.injEq, Value.int.injEq, Value.ref.injEq, and_true] at this
    obtain ⟨b1, b2, b3, b4⟩ := this
    rw [zI_inj b1 (by omega) (by omega) (by omega) (by omega), zI_inj b2 (by omega) (by omega) (by omega) (by omega), b3, b4]
noncomputable def pDIhas (as : List Value) (H : AH) : Rz := match as with
  | [.ref q] => wDi H q fun _ n _ _ => rV (bI (decide (0 < n))) H
  | _ => none
noncomputable def pDInext (as : List Value) (H : AH) : Rz := match as with
  | [.ref q] => wDi H q fun i n _ a => wDQ H a fun cap hd l => wIf (cap < 100000 ∧ 0 < n ∧ n ≤ l.length ∧ i.toNat = (hd + (l.length - n.toNat)) % cap) (rV (l.getD (l.length - n.toNat) .null) (jset H q (64, 4, jL [.int (zI (if i + 1 = cap then 0 else i + 1)), .int (zI (n - 1)), .int (zI i), .ref a])))
  | _ => none
noncomputable def pSBnew (as : List Value) (H : AH) : Rz := match as with
  | [.ref a] => wIf (jm H a = some (49, 4, jL [.null, .int 0, .int 0, .int 0])) (rN (jset (jburn H 1 16) a (cSB 16 [])))
  | _ => none
noncomputable def pSBnewS (as : List Value) (H : AH) : Rz := match as with
  | [.ref a, .ref q] => wIf (jm H a = some (49, 4, jL [.null, .int 0, .int 0, .int 0])) (wSt H q fun b => rN (jset (jburn H 1 (b.length + 16)) a (cSB (b.length + 16) b)))
  | _ => none
noncomputable def pSBappC (as : List Value) (H : AH) : Rz := match as with
  | [.ref a, .int i] => wSB H a fun cap b => wIf (cap < 100000 ∧ 0 ≤ i.toInt ∧ i.toInt < 128) (rV (.ref a) (jset (sbGrow H cap (b.length + 1)) a (cSB (sbCap cap (b.length + 1)) (b ++ [i.toInt]))))
  | _ => none
noncomputable def pSBappS (as : List Value) (H : AH) : Rz := match as with
  | [.ref a, .ref q] => wSB H a fun cap b => wIf (cap < 100000) (wSt H q fun c => rV (.ref a) (jset (sbGrow H cap (b.length + c.length)) a (cSB (sbCap cap (b.length + c.length)) (b ++ c))))
  | _ => none
/-- a number below a hundred, as it is written -/
def dgs (n : Int) : List Int := if n < 10 then [48 + n] else [48 + n / 10, 48 + n % 10]
noncomputable def pSBappI (as : List Value) (H : AH) : Rz := match as with
  | [.ref a, .int i] => wSB H a fun cap b => wIf (cap < 100000 ∧ 0 ≤ i.toInt ∧ i.toInt < 100) (rV (.ref a) (jset (sbGrow H cap (b.length + (dgs i.toInt).length)) a (cSB (sbCap cap (b.length + (dgs i.toInt).length)) (b ++ dgs i.toInt))))
  | _ => none
noncomputable def pSBstr (as : List Value) (H : AH) : Rz := match as with
  | [.ref a] => wSB H a fun cap b => wIf (cap < 100000 ∧ b.length < cap) (rV (.ref H.1) (jpush (jpush H (50, 4, jL [.ref (H.1 + 1), .int 0, .int 0, .int 0])) (1010, b.length, fun k => .int (zI (b.getD k 0)))))
  | _ => none
noncomputable def pSTeq (as : List Value) (H : AH) : Rz := match as with
  | [.ref a, .ref q] => wSt H a fun b => wSt H q fun c => rV (bI (decide (b = c))) H
  | _ => none
noncomputable def jprim2 (y : Nat) (as : List Value) (H : AH) : Rz :=
  if y = 43000 then pALadd as H else if y = 43002 then pALclear as H else if y = 43005 then pALget as H else if y = 43008 then pALindex as H else
  if y = 43010 then pALempty as H else if y = 43011 then pALiter as H else if y = 43016 then pALset as H else if y = 43017 then pALsize as H else
  if y = 43900 then pALnew as H else if y = 43901 then pALnewC as H else if y = 67001 then pIThas as H else if y = 67002 then pITnext as H else if y = 67003 then pITrem as H else
  if y = 44000 then pBScard as H else if y = 44002 then pBSclear as H else if y = 44005 then pBSget as H else if y = 44007 then pBSnext as H else if y = 44008 then pBSset as H else if y = 44900 then pBSnew as H else
  if y = 63000 then pDQadd as H else if y = 63006 then pDQempty as H else if y = 63007 then pDQiter as H else if y = 63010 then pDQpoll as H else if y = 63011 then pDQsize as H else if y = 63900 then pDQnew as H else
  if y = 64000 then pDIhas as H else if y = 64001 then pDInext as H else
  if y = 49000 then pSBappC as H else if y = 49001 then pSBappS as H else if y = 49003 then pSBappI as H else if y = 49007 then pSBstr as H else if y = 49900 then pSBnew as H else if y = 49901 then pSBnewS as H else
  if y = 50008 then pSTeq as H else none
def pse (y : Nat) : Bool := [43000, 43002, 43005, 43008, 43010, 43011, 43016, 43017, 43900, 43901, 67001, 67002, 67003, 44000, 44002, 44005, 44007, 44008, 44900, 63000, 63006, 63007, 63010, 63011, 63900, 64000, 64001, 49000, 49001, 49003, 49007, 49900, 49901, 50008].elem y
noncomputable def M2 : Nat → Cll
  | 0, _, _, _ => none
  | d + 1, y, as, h => if pse y = true then jprim2 y as h else if 90000 ≤ y then jprim y as h else if jrecv y as h = true ∧ (jent y as).length = jtML y then jlim (fun n => jrun (M2 d) y n (0, jent y as, [], h)) else none
noncomputable def G2 (d y pc : Nat) (L st : List Value) (h : AH) : Rz := jlim (fun n => jrun (M2 d) y n (pc, L, st, h))
theorem M2_zero (d : Nat) (as : List Value) (h : AH) : M2 d 0 as h = none := by
  cases d with
  | zero => rfl
  | succ d =>
    have e : jrecv 0 as h = false := by
      unfold jrecv
      rw [show jtStat 0 = false from rfl, show jtRecv 0 = [] from rfl]
      cases as with
      | nil => rfl
      | cons v r =>
        cases v with
        | ref a => simp only [Bool.false_or]; cases jm h a with
          | none => rfl
          | some c => rfl
        | _ => rfl
    rw [M2, if_neg (by decide), if_neg (by decide), if_neg (fun q => by rw [e] at q; exact absurd q.1 (by decide))]
/-- the equation of the interpreter, without fuel -/
theorem G2_step (d y pc : Nat) (L st : List Value) (h : AH) : G2 d y pc L st h = match stp (M2 d) y (pc, L, st, h) with
    | none => none
    | some (.inl c) => G2 d y c.1 c.2.1 c.2.2.1 c.2.2.2
    | some (.inr r) => some r := by
  have key : ∀ n, jrun (M2 d) y (n + 1) (pc, L, st, h) = match stp (M2 d) y (pc, L, st, h) with
    | none => none
    | some (.inl c) => jrun (M2 d) y n c
    | some (.inr r) => some r := fun n => rfl
  cases hs : stp (M2 d) y (pc, L, st, h) with
  | none =>
    refine jlim_none fun n => ?_
    cases n with
    | zero => rfl
    | succ n => rw [key, hs]
  | some q =>
    cases q with
    | inl c =>
      show G2 d y pc L st h = G2 d y c.1 c.2.1 c.2.2.1 c.2.2.2
      cases hr : G2 d y c.1 c.2.1 c.2.2.1 c.2.2.2 with
      | some r =>
        obtain ⟨n, hn⟩ := jlim_ex hr
        exact jlim_some (n := n + 1) (by rw [key, hs]; exact hn)
      | none =>
        refine jlim_none fun n => ?_
        cases n with
        | zero => rfl
        | succ n =>
          rw [key, hs]
          show jrun (M2 d) y n c = none
          cases hq : jrun (M2 d) y n c with
          | none => rfl
          | some r =>
            have h2 : G2 d y c.1 c.2.1 c.2.2.1 c.2.2.2 = some r := jlim_some hq
            rw [hr] at h2; cases h2
    | inr r => exact jlim_some (n := 1) (by rw [key, hs])
theorem M2_eq {d y : Nat} {as : List Value} {h : AH} {L : List Value} (hq : pse y = false) (hp : Nat.ble 90000 y = false) (hr : jrecv y as h = true) (hL : jent y as = L) (hl : L.length = jtML y := by rfl) : M2 (d + 1) y as h = G2 d y 0 L [] h := by
  subst hL
  rw [M2, if_neg (by rw [hq]; decide), if_neg (fun q => by rw [Nat.ble_eq_true_of_le q] at hp; cases hp), if_pos ⟨hr, hl⟩]
  rfl
theorem M2_p {d y : Nat} {as : List Value} {h : AH} (hq : pse y = true) : M2 (d + 1) y as h = jprim2 y as h := by rw [M2, if_pos hq]
