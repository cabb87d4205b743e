/-! how a heap stands for one with pseudo-cells. W q = a + 1: the cell q is a's own, hidden; Fo: cells of others -/
/-- the k-th word of a set -/
def wdN (s : Nat → Bool) (k : Nat) : Nat → Nat
  | 0 => 0
  | n + 1 => wdN s k n ||| (if s (64 * k + n) = true then 2 ^ n else 0)
def wd (s : Nat → Bool) (k : Nat) : Int64 := Int64.ofBitVec (BitVec.ofNat 64 (wdN s k 64))
def PsAL (h : AH) (W : Nat → Nat) (a cap : Nat) (mc : Int32) (l : List Value) : Prop :=
  l.length ≤ cap ∧ (∀ v ∈ l, isR v = true) ∧ ∃ e g, jm h a = some (43, 3, jL [.int mc, .ref e, .int (zI l.length)]) ∧
  ((cap = 0 ∧ je h 0 = .ref e ∧ ∃ f, jm h e = some (1041, 0, f)) ∨ (0 < cap ∧ W e = a + 1 ∧ jm h e = some (1040, cap, g) ∧ ∀ k, k < cap → g k = l.getD k .null))
def PsBS (h : AH) (W : Nat → Nat) (a wl : Nat) (s : Nat → Bool) : Prop :=
  0 < wl ∧ (∀ k, 64 * wl ≤ k → s k = false) ∧ ∃ e g u, jm h a = some (44, 3, jL [.ref e, .int (zI ((u : Nat) : Int)), .int 0]) ∧ W e = a + 1 ∧ jm h e = some (1030, wl, g) ∧
  (∀ k, k < wl → g k = .long (wd s k)) ∧ u ≤ wl ∧ (∀ k, 64 * u ≤ k → s k = false) ∧ (0 < u → ∃ k, 64 * (u - 1) ≤ k ∧ k < 64 * u ∧ s k = true)
def PsDQ (h : AH) (W : Nat → Nat) (a cap hd : Nat) (l : List Value) : Prop :=
  l.length < cap ∧ hd < cap ∧ (∀ v ∈ l, ∃ q, v = .ref q) ∧ ∃ e g, jm h a = some (63, 3, jL [.ref e, .int (zI hd), .int (zI ((hd + l.length) % cap : Nat))]) ∧ W e = a + 1 ∧ jm h e = some (1040, cap, g) ∧
  ∀ k, k < cap → g ((hd + k) % cap) = l.getD k .null
def PsSB (h : AH) (W : Nat → Nat) (a cap : Nat) (b : List Int) : Prop :=
  b.length ≤ cap ∧ SbW b ∧ ∃ e g ml, jm h a = some (49, 4, jL [.ref e, .int 0, .int ml, .int (zI b.length)]) ∧ W e = a + 1 ∧ jm h e = some (1010, cap, g) ∧
  (∀ k, k < b.length → g k = .int (zI (b.getD k 0)))
def PsOK (h : AH) (W : Nat → Nat) (a : Nat) (c : Cl) : Prop :=
  (∃ cap mc l, c = cAL cap mc l ∧ PsAL h W a cap mc l) ∨ (∃ wl s, c = cBS wl s ∧ PsBS h W a wl s) ∨ (∃ cap hd l, c = cDQ cap hd l ∧ PsDQ h W a cap hd l) ∨ (∃ cap b, c = cSB cap b ∧ PsSB h W a cap b)
/-- constants of the launch that the library's methods look at -/
def EnvH (H : AH) : Prop := (∃ e0, je H 47 = .ref e0) ∧ (∃ e f, je H 0 = .ref e ∧ jm H e = some (1041, 0, f)) ∧
  (∃ e f, je H 7 = .ref e ∧ jm H e = some (1011, 100, f) ∧ ∀ k : Nat, k < 100 → f k = .int (zI ((48 + k % 10 : Nat) : Int))) ∧
  ∃ e f, je H 8 = .ref e ∧ jm H e = some (1011, 100, f) ∧ ∀ k : Nat, k < 100 → f k = .int (zI ((48 + k / 10 : Nat) : Int))
theorem EnvH.to {H H2 : AH} (h : EnvH H) (he : je H2 = je H) (hk : ∀ q c, jm H q = some c → (c.1 = 1041 ∨ c.1 = 1011) → jm H2 q = some c) : EnvH H2 := by
  obtain ⟨h1, ⟨e, f, a1, a2⟩, ⟨e7, f7, b1, b2, b3⟩, e8, f8, c1, c2, c3⟩ := h
  exact ⟨by rw [he]; exact h1, ⟨e, f, by rw [he]; exact a1, hk _ _ a2 (Or.inl rfl)⟩, ⟨e7, f7, by rw [he]; exact b1, hk _ _ b2 (Or.inr rfl), b3⟩, e8, f8, by rw [he]; exact c1, hk _ _ c2 (Or.inr rfl), c3⟩
def Rep (Fo : Nat → Option Cl) (W : Nat → Nat) (h H : AH) : Prop :=
  (h.1 = H.1 ∧ h.2.1 = H.2.1 ∧ h.2.2.1 = H.2.2.1) ∧
  (∀ q c, jm H q = some c → q < H.1 ∧ W q = 0 ∧ Fo q = none) ∧
  (∀ q c, jm H q = some c → psT c.1 = false → jm h q = some c) ∧
  (∀ q c, jm H q = some c → psT c.1 = true → PsOK h W q c) ∧
  (∀ q c, Fo q = some c → jm h q = some c ∧ q < H.1 ∧ W q = 0) ∧
  (∀ q a, W q = a + 1 → q < H.1) ∧
  EnvH H
/-- some hidden cells -/
def RX (Fo : Nat → Option Cl) (h H : AH) : Prop := ∃ W, Rep Fo W h H
theorem PsOK.tag {h : AH} {W : Nat → Nat} {a : Nat} {c : Cl} (p : PsOK h W a c) : psT c.1 = true ∧ c.1 < 1000 ∧ ∃ t n f, jm h a = some (t, n, f) ∧ t < 100 := by
  rcases p with ⟨cap, mc, l, rfl, -, -, e, g, h1, -⟩ | ⟨wl, s, rfl, -, -, e, g, u, h1, -⟩ | ⟨cap, hd, l, rfl, -, -, -, e, g, h1, -⟩ | ⟨cap, b, rfl, -, -, e, g, ml, h1, -⟩
  · exact ⟨rfl, show 243 < 1000 by decide, _, _, _, h1, by decide⟩
  · exact ⟨rfl, show 244 < 1000 by decide, _, _, _, h1, by decide⟩
  · exact ⟨rfl, show 263 < 1000 by decide, _, _, _, h1, by decide⟩
  · exact ⟨rfl, show 249 < 1000 by decide, _, _, _, h1, by decide⟩
/-- a pseudo-cell stands as long as its own cells do -/
theorem PsOK.fr {h h2 : AH} {W W2 : Nat → Nat} {a : Nat} {c : Cl} (p : PsOK h W a c) (ha : jm h2 a = jm h a) (he : je h2 = je h) (hW : ∀ e, W e = a + 1 → W2 e = a + 1 ∧ jm h2 e = jm h e)
    (h0 : ∀ e, je h 0 = .ref e → (∃ f, jm h e = some (1041, 0, f)) → ∃ f, jm h2 e = some (1041, 0, f)) : PsOK h2 W2 a c := by
  rcases p with ⟨cap, mc, l, rfl, p1, p2, e, g, h1, h2⟩ | ⟨wl, s, rfl, p1, p2, e, g, u, h1, h2, h3, h4⟩ | ⟨cap, hd, l, rfl, p1, p2, p3, e, g, h1, h2, h3, h4⟩ | ⟨cap, b, rfl, p1, p2, e, g, ml, h1, h2, h3, h4⟩
  · refine Or.inl ⟨cap, mc, l, rfl, p1, p2, e, g, ha.trans h1, ?_⟩
    rcases h2 with ⟨c0, e0, f⟩ | ⟨c0, w, m, gg⟩
    · exact Or.inl ⟨c0, by rw [he]; exact e0, h0 e e0 f⟩
    · obtain ⟨w2, m2⟩ := hW e w
      exact Or.inr ⟨c0, w2, m2.trans m, gg⟩
  · obtain ⟨w2, m2⟩ := hW e h2
    exact Or.inr (Or.inl ⟨wl, s, rfl, p1, p2, e, g, u, ha.trans h1, w2, m2.trans h3, h4⟩)
  · obtain ⟨w2, m2⟩ := hW e h2
    exact Or.inr (Or.inr (Or.inl ⟨cap, hd, l, rfl, p1, p2, p3, e, g, ha.trans h1, w2, m2.trans h3, h4⟩))
  · obtain ⟨w2, m2⟩ := hW e h2
    exact Or.inr (Or.inr (Or.inr ⟨cap, b, rfl, p1, p2, e, g, ml, ha.trans h1, w2, m2.trans h3, h4⟩))
theorem jm_jset {h : AH} {a q : Nat} {c : Cl} : jm (jset h a c) q = if q = a then some c else jm h q := rfl
theorem jm_jpush {h : AH} {q : Nat} {c : Cl} : jm (jpush h c) q = if q = h.1 then some c else jm h q := rfl
theorem jm_jburn {h : AH} {q k s : Nat} : jm (jburn h k s) q = jm h q := rfl
section
variable {Fo : Nat → Option Cl} {h H : AH} {a q t n : Nat} {f f2 : Nat → Value} {c : Cl}
theorem RX.get (R : RX Fo h H) (e : jm H q = some c) (p : psT c.1 = false) : jm h q = some c := by
  obtain ⟨W, -, -, r, -⟩ := R; exact r q c e p
theorem RX.hn (R : RX Fo h H) : h.1 = H.1 := by obtain ⟨W, r, -⟩ := R; exact r.1
theorem RX.sl (R : RX Fo h H) : h.2.1 = H.2.1 := by obtain ⟨W, r, -⟩ := R; exact r.2.1
theorem RX.e (R : RX Fo h H) : je h = je H := by obtain ⟨W, r, -⟩ := R; exact r.2.2
/-- a cell that is seen is one, and an object is one -/
theorem RX.any (R : RX Fo h H) (e : jm H q = some c) (p : c.1 < 1000) : ∃ c2, jm h q = some c2 ∧ c2.1 < 1000 ∧ (psT c.1 = false → c2 = c) := by
  cases hp : psT c.1 with
  | false => exact ⟨c, R.get e hp, p, fun _ => rfl⟩
  | true =>
    obtain ⟨W, -, -, -, r, -⟩ := R
    obtain ⟨-, -, t, n, f, m, ht⟩ := (r q c e hp).tag
    exact ⟨_, m, by show t < 1000; omega, fun x => by cases x⟩
theorem RX.set (R : RX Fo h H) (e : jm H a = some (t, n, f)) (p : psT t = false) (hmu : t < 1000 ∨ t % 10 = 0) : RX Fo (jset h a (t, n, f2)) (jset H a (t, n, f2)) := by
  obtain ⟨W, r1, r2, r3, r4, r5, r6, r7⟩ := R
  have hw := r2 a _ e
  refine ⟨W, r1, fun q c hq => ?_, fun q c hq hp => ?_, fun q c hq hp => ?_, fun q c hq => ?_, r6, r7.to rfl fun q c hq hc => ?_⟩
  · by_cases hqa : q = a
    · subst hqa; exact hw
    · rw [jm_jset, if_neg hqa] at hq; exact r2 q c hq
  · rw [jm_jset] at hq ⊢
    by_cases hqa : q = a
    · rw [if_pos hqa] at hq ⊢; exact hq
    · rw [if_neg hqa] at hq ⊢; exact r3 q c hq hp
  · have hqa : q ≠ a := by
      rintro rfl
      rw [jm_jset, if_pos rfl] at hq
      cases hq
      exact Bool.noConfusion (p.symm.trans hp)
    rw [jm_jset, if_neg hqa] at hq
    refine (r4 q c hq hp).fr (by rw [jm_jset, if_neg hqa]) rfl (fun e1 we => ⟨we, ?_⟩) (fun e1 _ x => ?_)
    · rw [jm_jset, if_neg]
      rintro rfl
      rw [hw.2.1] at we; cases we
    · rw [jm_jset]
      by_cases h1 : e1 = a
      · subst h1
        obtain ⟨fx, hx⟩ := x
        rw [r3 e1 _ e p] at hx
        cases hx
        exact ⟨f2, if_pos rfl⟩
      · rw [if_neg h1]; exact x
  · have hqa : q ≠ a := by
      rintro rfl
      rw [hw.2.2] at hq; cases hq
    rw [jm_jset, if_neg hqa]
    exact r5 q c hq
  · rw [jm_jset, if_neg]
    · exact hq
    · rintro rfl
      rw [e] at hq
      cases hq
      have hc : t = 1041 ∨ t = 1011 := hc
      omega
theorem RX.push (R : RX Fo h H) (p : psT c.1 = false) : RX Fo (jpush h c) (jpush H c) := by
  obtain ⟨W, r1, r2, r3, r4, r5, r6, r7⟩ := R
  have hn := r1.1
  have wn : W H.1 = 0 := by
    cases hw : W H.1 with
    | zero => rfl
    | succ x => exact absurd (r6 _ _ hw) (Nat.lt_irrefl _)
  have fn : Fo H.1 = none := by
    cases hw : Fo H.1 with
    | none => rfl
    | some x => exact absurd (r5 _ _ hw).2.1 (Nat.lt_irrefl _)
  have lt : ∀ {q : Nat}, q < H.1 → q ≠ H.1 := fun hq x => absurd (x ▸ hq) (Nat.lt_irrefl _)
  refine ⟨W, ⟨by show h.1 + 1 = H.1 + 1; omega, by show h.2.1 + c.2.1 = H.2.1 + c.2.1; rw [r1.2.1], r1.2.2⟩, fun q d hq => ?_, fun q d hq hp => ?_, fun q d hq hp => ?_, fun q d hq => ?_, fun q b hb => Nat.lt_succ_of_lt (r6 q b hb), r7.to rfl fun q c hq _ => by rw [jm_jpush, if_neg (lt (r2 _ _ hq).1)]; exact hq⟩
  · by_cases hqa : q = H.1
    · subst hqa; exact ⟨Nat.lt_succ_self _, wn, fn⟩
    · rw [jm_jpush, if_neg hqa] at hq
      have := r2 q d hq
      exact ⟨Nat.lt_succ_of_lt this.1, this.2⟩
  · rw [jm_jpush] at hq ⊢
    by_cases hqa : q = H.1
    · rw [if_pos hqa] at hq; rw [if_pos (by omega)]; exact hq
    · rw [if_neg hqa] at hq; rw [if_neg (by omega)]; exact r3 q d hq hp
  · have hqa : q ≠ H.1 := by
      rintro rfl
      rw [jm_jpush, if_pos rfl] at hq
      cases hq
      exact Bool.noConfusion (p.symm.trans hp)
    rw [jm_jpush, if_neg hqa] at hq
    refine (r4 q d hq hp).fr (by rw [jm_jpush, if_neg (by omega)]) rfl (fun e1 we => ⟨we, ?_⟩) (fun e1 _ x => ?_)
    · have := r6 _ _ we
      rw [jm_jpush, if_neg (by omega)]
    · by_cases h1 : e1 = h.1
      · obtain ⟨fx, hx⟩ := x
        obtain ⟨-, ⟨e0, f0, r7, r8⟩, -⟩ := r7
        have r7' : je h 0 = .ref e1 := by assumption
        rw [show je h = je H from r1.2.2, r7] at r7'
        cases r7'
        exact absurd (h1.trans hn) (lt (r2 _ _ r8).1)
      · rw [jm_jpush, if_neg h1]; exact x
  · have := r5 q d hq
    rw [jm_jpush, if_neg (by rw [hn]; exact lt this.2.1)]
    exact ⟨this.1, Nat.lt_succ_of_lt this.2.1, this.2.2⟩
end
/-- a library's method works on its own cells alone: a is a pseudo-cell (or is to be one), k cells and s slots are new and a's own -/
theorem Rep.up {Fo : Nat → Option Cl} {W : Nat → Nat} {h h2 H : AH} {a k s : Nat} {c c2 : Cl} (R : Rep Fo W h H) (e : jm H a = some c) (hc : c.1 < 1000) (p : psT c2.1 = true)
    (hn : h2.1 = h.1 + k) (hs : h2.2.1 = h.2.1 + s) (he : h2.2.2.1 = h.2.2.1) (hk : ∀ q, q < h.1 → q ≠ a → W q ≠ a + 1 → jm h2 q = jm h q)
    (hp : PsOK h2 (fun q => if H.1 ≤ q ∧ q < H.1 + k then a + 1 else W q) a c2) : RX Fo h2 (jset (jburn H k s) a c2) := by
  obtain ⟨r1, r2, r3, r4, r5, r6, r7⟩ := R
  have hw := r2 a _ e
  have hcn : h.1 = H.1 := r1.1
  refine ⟨fun q => if H.1 ≤ q ∧ q < H.1 + k then a + 1 else W q, ⟨by show h2.1 = H.1 + k; omega, by show h2.2.1 = H.2.1 + s; rw [hs, r1.2.1], he.trans r1.2.2⟩, fun q d hq => ?_, fun q d hq hp2 => ?_, fun q d hq hp2 => ?_, fun q d hq => ?_, fun q b hb => ?_, r7.to rfl fun q d hq hc2 => ?_⟩
  · by_cases hqa : q = a
    · subst hqa
      refine ⟨Nat.lt_of_lt_of_le hw.1 (Nat.le_add_right _ _), ?_, hw.2.2⟩
      exact (if_neg (by omega)).trans hw.2.1
    · rw [jm_jset, if_neg hqa] at hq
      have := r2 q d hq
      refine ⟨Nat.lt_of_lt_of_le this.1 (Nat.le_add_right _ _), ?_, this.2.2⟩
      exact (if_neg (by omega)).trans this.2.1
  · have hqa : q ≠ a := by
      rintro rfl
      rw [jm_jset, if_pos rfl] at hq
      cases hq
      exact Bool.noConfusion (p.symm.trans hp2)
    rw [jm_jset, if_neg hqa] at hq
    have := r2 q d hq
    rw [hk q (by omega) hqa (by omega)]
    exact r3 q d hq hp2
  · by_cases hqa : q = a
    · subst hqa
      rw [jm_jset, if_pos rfl] at hq
      cases hq
      exact hp
    · rw [jm_jset, if_neg hqa] at hq
      have := r2 q d hq
      refine (r4 q d hq hp2).fr (hk q (by omega) hqa (by omega)) (show h2.2.2.1 = h.2.2.1 from he) (fun e1 we => ?_) (fun e1 je1 x => ?_)
      · have l1 := r6 _ _ we
        refine ⟨(if_neg (by omega)).trans we, hk e1 (by omega) ?_ (by omega)⟩
        rintro rfl
        rw [hw.2.1] at we; cases we
      · obtain ⟨-, ⟨e0, f0, r7, r8⟩, -⟩ := r7
        have je1 : je h 0 = .ref e1 := je1
        rw [show je h = je H from r1.2.2, r7] at je1
        cases je1
        have l1 := r2 _ _ r8
        have na : e1 ≠ a := by
          rintro rfl
          rw [e] at r8; cases r8
          exact absurd hc (by show ¬ 1041 < 1000; decide)
        rw [hk e1 (by omega) na (by omega)]; exact x
  · have l1 := r5 q d hq
    have na : q ≠ a := by
      rintro rfl
      rw [hw.2.2] at hq; cases hq
    refine ⟨?_, Nat.lt_of_lt_of_le l1.2.1 (Nat.le_add_right _ _), (if_neg (by omega)).trans l1.2.2⟩
    rw [hk q (by omega) na (by omega)]; exact l1.1
  · have hb : (if H.1 ≤ q ∧ q < H.1 + k then a + 1 else W q) = b + 1 := hb
    show q < H.1 + k
    by_cases hq : H.1 ≤ q ∧ q < H.1 + k
    · exact hq.2
    · rw [if_neg hq] at hb
      have := r6 q b hb
      omega
  · have na : q ≠ a := by
      rintro rfl
      rw [e] at hq; cases hq
      omega
    show jm (jset (jburn H k s) a c2) q = _
    rw [jm_jset, if_neg na]; exact hq
theorem Rep.up0 {Fo : Nat → Option Cl} {W : Nat → Nat} {h h2 H : AH} {a : Nat} {c c2 : Cl} (R : Rep Fo W h H) (e : jm H a = some c) (hc : c.1 < 1000) (p : psT c2.1 = true)
    (hn : h2.1 = h.1) (hs : h2.2.1 = h.2.1) (he : h2.2.2.1 = h.2.2.1) (hk : ∀ q, q < h.1 → q ≠ a → W q ≠ a + 1 → jm h2 q = jm h q)
    (hp : PsOK h2 W a c2) : RX Fo h2 (jset H a c2) := by
  have := Rep.up (k := 0) (s := 0) R e hc p hn hs he hk (by
    have : (fun q => if H.1 ≤ q ∧ q < H.1 + 0 then a + 1 else W q) = W := funext fun q => by rw [if_neg (by omega)]
    rw [this]; exact hp)
  exact this
/-- a pseudo-cell's own real cell -/
theorem Rep.ps {Fo : Nat → Option Cl} {W : Nat → Nat} {h H : AH} {a : Nat} {c : Cl} (R : Rep Fo W h H) (e : jm H a = some c) (p : psT c.1 = true) : PsOK h W a c := R.2.2.2.1 a c e p
theorem cAL_ne_BS {c : Nat} {m : Int32} {l : List Value} {w : Nat} {s : Nat → Bool} (h : cAL c m l = cBS w s) : False := by simp [cAL, cBS] at h
theorem Rep.al {Fo : Nat → Option Cl} {W : Nat → Nat} {h H : AH} {a cap : Nat} {mc : Int32} {l : List Value} (R : Rep Fo W h H) (e : jm H a = some (cAL cap mc l)) : PsAL h W a cap mc l := by
  rcases R.ps e rfl with ⟨_, _, _, h1, p⟩ | ⟨_, _, h1, -⟩ | ⟨_, _, _, h1, -⟩ | ⟨_, _, h1, -⟩
  · obtain ⟨rfl, rfl, rfl⟩ := cAL_inj h1; exact p
  · simp [cAL, cBS] at h1
  · simp [cAL, cDQ] at h1
  · simp [cAL, cSB] at h1
theorem Rep.bs {Fo : Nat → Option Cl} {W : Nat → Nat} {h H : AH} {a wl : Nat} {s : Nat → Bool} (R : Rep Fo W h H) (e : jm H a = some (cBS wl s)) : PsBS h W a wl s := by
  rcases R.ps e rfl with ⟨_, _, _, h1, -⟩ | ⟨_, _, h1, p⟩ | ⟨_, _, _, h1, -⟩ | ⟨_, _, h1, -⟩
  · simp [cAL, cBS] at h1
  · obtain ⟨rfl, rfl⟩ := cBS_inj h1; exact p
  · simp [cBS, cDQ] at h1
  · simp [cBS, cSB] at h1
theorem Rep.dq {Fo : Nat → Option Cl} {W : Nat → Nat} {h H : AH} {a cap hd : Nat} {l : List Value} (R : Rep Fo W h H) (e : jm H a = some (cDQ cap hd l)) : PsDQ h W a cap hd l := by
  rcases R.ps e rfl with ⟨_, _, _, h1, -⟩ | ⟨_, _, h1, -⟩ | ⟨_, _, _, h1, p⟩ | ⟨_, _, h1, -⟩
  · simp [cAL, cDQ] at h1
  · simp [cBS, cDQ] at h1
  · obtain ⟨rfl, rfl, rfl⟩ := cDQ_inj h1; exact p
  · simp [cDQ, cSB] at h1
theorem Rep.sb {Fo : Nat → Option Cl} {W : Nat → Nat} {h H : AH} {a cap : Nat} {b : List Int} (R : Rep Fo W h H) (hb : SbW b) (e : jm H a = some (cSB cap b)) : PsSB h W a cap b := by
  rcases R.ps e rfl with ⟨_, _, _, h1, -⟩ | ⟨_, _, h1, -⟩ | ⟨_, _, _, h1, -⟩ | ⟨_, _, h1, p⟩
  · simp [cAL, cSB] at h1
  · simp [cBS, cSB] at h1
  · simp [cDQ, cSB] at h1
  · obtain ⟨rfl, rfl⟩ := cSB_inj hb p.2.1 h1; exact p
