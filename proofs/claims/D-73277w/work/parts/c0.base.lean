/-! H-LEVEL: what is frozen; rows of the collections' methods -/
/-- cells that stand -/
def Fzn (F : Nat → Option Cl) (H : AH) : Prop := ∀ q c, F q = some c → jm H q = some c ∧ q < H.1
/-- a part of -/
def Sub (F G : Nat → Option Cl) : Prop := ∀ q c, F q = some c → G q = some c
theorem Sub.rf {F : Nat → Option Cl} : Sub F F := fun _ _ h => h
theorem Sub.tr {F G K : Nat → Option Cl} (h1 : Sub F G) (h2 : Sub G K) : Sub F K := fun q c h => h2 q c (h1 q c h)
/-- but for the cells of P all that was there is as it was -/
def Fr (H H2 : AH) (P : Nat → Prop) : Prop := H.1 ≤ H2.1 ∧ je H2 = je H ∧ ∀ q, q < H.1 → ¬ P q → jm H2 q = jm H q
theorem Fr.rf {H : AH} {P : Nat → Prop} : Fr H H P := ⟨Nat.le_refl _, rfl, fun _ _ _ => rfl⟩
theorem Fr.tr {H H2 H3 : AH} {P : Nat → Prop} (h1 : Fr H H2 P) (h2 : Fr H2 H3 P) : Fr H H3 P := ⟨Nat.le_trans h1.1 h2.1, h2.2.1.trans h1.2.1, fun q a b => (h2.2.2 q (Nat.lt_of_lt_of_le a h1.1) b).trans (h1.2.2 q a b)⟩
theorem Fr.mono {H H2 : AH} {P Q : Nat → Prop} (h : Fr H H2 P) (hq : ∀ q, q < H.1 → P q → Q q) : Fr H H2 Q := ⟨h.1, h.2.1, fun q a b => h.2.2 q a fun p => b (hq q a p)⟩
theorem Fr.set {H : AH} {P : Nat → Prop} {a : Nat} {c : Cl} (p : P a) : Fr H (jset H a c) P := ⟨Nat.le_refl _, rfl, fun q _ hp => by rw [jm_s2]; rintro rfl; exact hp p⟩
theorem Fr.push {H : AH} {P : Nat → Prop} {c : Cl} : Fr H (jpush H c) P := ⟨Nat.le_succ _, rfl, fun q hq _ => by rw [jm_p2 (Nat.ne_of_lt hq)]⟩
theorem Fr.burn {H : AH} {P : Nat → Prop} {k s : Nat} : Fr H (jburn H k s) P := ⟨Nat.le_add_right _ _, rfl, fun _ _ _ => rfl⟩
/-- what is new may be written -/
theorem Fr.new {H H2 H3 : AH} {P : Nat → Prop} (h1 : Fr H H2 P) (h2 : Fr H2 H3 (fun q => P q ∨ H.1 ≤ q)) : Fr H H3 P := ⟨Nat.le_trans h1.1 h2.1, h2.2.1.trans h1.2.1, fun q a b => (h2.2.2 q (Nat.lt_of_lt_of_le a h1.1) (fun z => z.elim b fun z => absurd a (Nat.not_lt.mpr z))).trans (h1.2.2 q a b)⟩
theorem Fzn.fr {F : Nat → Option Cl} {H H2 : AH} {P : Nat → Prop} (h : Fzn F H) (f : Fr H H2 P) (hp : ∀ q, P q → F q = none) : Fzn F H2 := fun q c hq => by
  obtain ⟨a, b⟩ := h q c hq
  refine ⟨?_, Nat.lt_of_lt_of_le b f.1⟩
  rw [f.2.2 q b (fun z => by rw [hp q z] at hq; cases hq)]
  exact a
theorem Fzn.m {F : Nat → Option Cl} {H : AH} {q : Nat} {c : Cl} (h : Fzn F H) (e : F q = some c) : jm H q = some c := (h q c e).1
theorem Fzn.lt {F : Nat → Option Cl} {H : AH} {q : Nat} {c : Cl} (h : Fzn F H) (e : F q = some c) : q < H.1 := (h q c e).2
section
variable {H : AH} {a q k s : Nat} {c c2 : Cl}
theorem jm_b : jm (jburn H k s) q = jm H q := rfl
theorem jn_b : (jburn H k s).1 = H.1 + k := rfl
theorem jn_s : (jset H a c).1 = H.1 := rfl
theorem jn_p : (jpush H c).1 = H.1 + 1 := rfl
theorem jset_jpush2 {t n t2 : Nat} {f f2 : Nat → Value} : jset (jpush H (t, n, f)) H.1 (t2, n, f2) = jpush H (t2, n, f2) := jset_jpush rfl
theorem obi2 {d : Nat} : M2 (d + 1) 90000 [.ref a] H = some (.inl none, H) := by
  rw [M2, if_neg (by decide), if_pos (by decide)]; rfl
end
theorem bI_t : bI true = .int (zI 1) := rfl
theorem bI_f : bI false = .int (zI 0) := rfl
def alUp (cap n : Nat) : Nat := if n < cap then cap else alCap cap
def alBurn (H : AH) (cap n : Nat) : AH := if n < cap then H else jburn H 1 (alCap cap)
section
variable {d : Nat} {H : AH} {a cap hd wl : Nat} {mc : Int32} {l : List Value} {s : Nat → Bool} {b c : List Int} {i : Int} {v : Value}
theorem h_size (m : jm H a = some (cAL cap mc l)) : M2 (d + 1) 43017 [.ref a] H = some (.inl (some (.int (zI l.length))), H) := by
  rw [M2_p rfl]
  show pALsize [.ref a] H = _
  unfold pALsize
  exact wAL_eq m
theorem h_empty (m : jm H a = some (cAL cap mc l)) (hc : cap < 100000) : M2 (d + 1) 43010 [.ref a] H = some (.inl (some (bI l.isEmpty)), H) := by
  rw [M2_p rfl]
  show pALempty [.ref a] H = _
  unfold pALempty
  exact (wAL_eq m).trans (wIf_eq hc)
theorem h_get (m : jm H a = some (cAL cap mc l)) (i0 : 0 ≤ i) (i1 : i < l.length) (hc : cap < 100000) (hl : l.length < 100000) : M2 (d + 1) 43005 [.ref a, .int (zI i)] H = some (.inl (some (l.getD i.toNat .null)), H) := by
  rw [M2_p rfl]
  show pALget [.ref a, .int (zI i)] H = _
  unfold pALget
  refine (wAL_eq m).trans ?_
  rw [zI_toInt (by omega) (by omega)]
  exact wIf_eq ⟨hc, i0, i1⟩
theorem h_set (m : jm H a = some (cAL cap mc l)) (i0 : 0 ≤ i) (i1 : i < l.length) (hc : cap < 100000) (hl : l.length < 100000) (ok : okE H v) : M2 (d + 1) 43016 [.ref a, .int (zI i), v] H = some (.inl (some (l.getD i.toNat .null)), jset H a (cAL cap mc (l.set i.toNat v))) := by
  rw [M2_p rfl]
  show pALset [.ref a, .int (zI i), v] H = _
  unfold pALset
  refine (wAL_eq m).trans ?_
  rw [zI_toInt (by omega) (by omega)]
  exact wIf_eq ⟨hc, ok, i0, i1⟩
theorem h_add (m : jm H a = some (cAL cap mc l)) (hc : cap < 100000) (ok : okE H v) : M2 (d + 1) 43000 [.ref a, v] H = some (.inl (some (.int 1)), jset (alBurn H cap l.length) a (cAL (alUp cap l.length) (mc + 1) (l ++ [v]))) := by
  rw [M2_p rfl]
  show pALadd [.ref a, v] H = _
  unfold pALadd alBurn alUp
  refine ((wAL_eq m).trans (wIf_eq ⟨ok, hc⟩)).trans ?_
  by_cases e : l.length < cap
  · simp only [if_pos e]; rfl
  · simp only [if_neg e]; rfl
theorem h_clear (m : jm H a = some (cAL cap mc l)) (hc : cap < 100000) : M2 (d + 1) 43002 [.ref a] H = some (.inl none, jset H a (cAL cap (mc + 1) [])) := by
  rw [M2_p rfl]
  show pALclear [.ref a] H = _
  unfold pALclear
  exact (wAL_eq m).trans (wIf_eq hc)
theorem h_new (m : jm H a = some (43, 3, jL [.int (zI 0), .null, .int (zI 0)])) : M2 (d + 1) 43900 [.ref a] H = some (.inl none, jset H a (cAL 0 0 [])) := by
  rw [M2_p rfl]
  show pALnew [.ref a] H = _
  unfold pALnew
  exact wIf_eq m
theorem h_newC (m : jm H a = some (43, 3, jL [.int (zI 0), .null, .int (zI 0)])) (i0 : 0 < i) (i1 : i < 100000) : M2 (d + 1) 43901 [.ref a, .int (zI i)] H = some (.inl none, jset (jburn H 1 i.toNat) a (cAL i.toNat 0 [])) := by
  rw [M2_p rfl]
  show pALnewC [.ref a, .int (zI i)] H = _
  unfold pALnewC
  simp only []
  rw [zI_toInt (by omega) (by omega)]
  exact wIf_eq ⟨m, i0, i1⟩
theorem h_index {q : Nat} {L : List (List Int)} (m : jm H a = some (cAL cap mc l)) (hc : cap < 100000) (hs : StrAt H q b) (hL : AllS H l L) : M2 (d + 1) 43008 [.ref a, .ref q] H = some (.inl (some (.int (zI (fstS b L 0)))), H) := by
  rw [M2_p rfl]
  show pALindex [.ref a, .ref q] H = _
  unfold pALindex
  exact (((wAL_eq m).trans (wIf_eq hc)).trans (wSt_eq hs)).trans (wLs_eq hL)
def oIt (i lr : Int) (mc : Int32) (a : Nat) : Nat → Value := jL [.int (zI i), .int (zI lr), .int mc, .ref a]
theorem h_iter (m : jm H a = some (cAL cap mc l)) : M2 (d + 1) 43011 [.ref a] H = some (.inl (some (.ref H.1)), jpush H (67, 4, oIt 0 (-1) mc a)) := by
  rw [M2_p rfl]
  show pALiter [.ref a] H = _
  unfold pALiter
  exact wAL_eq m
theorem h_has {q : Nat} {lr : Int} {mc2 : Int32} (mq : jm H q = some (67, 4, oIt i lr mc2 a)) (i0 : 0 ≤ i) (i1 : i < 100000) (r0 : -1 ≤ lr) (r1 : lr < 100000) (m : jm H a = some (cAL cap mc l)) (hc : cap < 100000) : M2 (d + 1) 67001 [.ref q] H = some (.inl (some (bI (decide (i ≠ l.length)))), H) := by
  rw [M2_p rfl]
  show pIThas [.ref q] H = _
  unfold pIThas
  exact ((wIt_eq mq i0 i1 r0 r1).trans (wAL_eq m)).trans (wIf_eq hc)
theorem h_next {q : Nat} {lr : Int} (mq : jm H q = some (67, 4, oIt i lr mc a)) (i0 : 0 ≤ i) (i1 : i < l.length) (r0 : -1 ≤ lr) (r1 : lr < 100000) (m : jm H a = some (cAL cap mc l)) (hc : cap < 100000) (hl : l.length < 100000) : M2 (d + 1) 67002 [.ref q] H = some (.inl (some (l.getD i.toNat .null)), jset H q (67, 4, oIt (i + 1) i mc a)) := by
  rw [M2_p rfl]
  show pITnext [.ref q] H = _
  unfold pITnext
  exact ((wIt_eq mq i0 (by omega) r0 r1).trans (wAL_eq m)).trans (wIf_eq ⟨hc, rfl, i1⟩)
theorem h_rem {q : Nat} {lr : Int} (mq : jm H q = some (67, 4, oIt i lr mc a)) (i0 : 0 ≤ i) (i1 : i < 100000) (r0 : 0 ≤ lr) (r1 : lr < l.length) (m : jm H a = some (cAL cap mc l)) (hc : cap < 100000) (hl : l.length < 100000) (hq : q ≠ a) : M2 (d + 1) 67003 [.ref q] H = some (.inl none, jset (jset H a (cAL cap (mc + 1) (l.eraseIdx lr.toNat))) q (67, 4, oIt lr (-1) (mc + 1) a)) := by
  rw [M2_p rfl]
  show pITrem [.ref q] H = _
  unfold pITrem
  exact ((wIt_eq mq i0 i1 (by omega) (by omega)).trans (wAL_eq m)).trans (wIf_eq ⟨hc, rfl, r0, r1, hq⟩)
def bsUp (wl i : Nat) : Nat := if i / 64 < wl then wl else max (2 * wl) (i / 64 + 1)
def bsBurn (H : AH) (wl i : Nat) : AH := if i / 64 < wl then H else jburn H 1 (max (2 * wl) (i / 64 + 1))
theorem h_bnew (m : jm H a = some (44, 3, jL [.null, .int (zI 0), .int (zI 0)])) : M2 (d + 1) 44900 [.ref a] H = some (.inl none, jset (jburn H 1 1) a (cBS 1 fun _ => false)) := by
  rw [M2_p rfl]
  show pBSnew [.ref a] H = _
  unfold pBSnew
  exact wIf_eq m
theorem h_bget (m : jm H a = some (cBS wl s)) (hw : wl < 100000) (i0 : 0 ≤ i) (i1 : i < 2147483648) : M2 (d + 1) 44005 [.ref a, .int (zI i)] H = some (.inl (some (bI (s i.toNat))), H) := by
  rw [M2_p rfl]
  show pBSget [.ref a, .int (zI i)] H = _
  unfold pBSget
  refine (wBS_eq m).trans ?_
  rw [zI_toInt (by omega) (by omega)]
  exact wIf_eq ⟨hw, i0⟩
theorem h_bset (m : jm H a = some (cBS wl s)) (hw : wl < 100000) (i0 : 0 ≤ i) (i1 : i < 100000) : M2 (d + 1) 44008 [.ref a, .int (zI i)] H = some (.inl none, jset (bsBurn H wl i.toNat) a (cBS (bsUp wl i.toNat) fun k => decide (k = i.toNat) || s k)) := by
  rw [M2_p rfl]
  show pBSset [.ref a, .int (zI i)] H = _
  unfold pBSset bsBurn bsUp
  refine (wBS_eq m).trans ?_
  rw [zI_toInt (by omega) (by omega)]
  refine (wIf_eq ⟨hw, i0, i1⟩).trans ?_
  by_cases e : i.toNat / 64 < wl
  · simp only [if_pos e]; rfl
  · simp only [if_neg e]; rfl
theorem h_bclear (m : jm H a = some (cBS wl s)) (hw : wl < 100000) : M2 (d + 1) 44002 [.ref a] H = some (.inl none, jset H a (cBS wl fun _ => false)) := by
  rw [M2_p rfl]
  show pBSclear [.ref a] H = _
  unfold pBSclear
  exact (wBS_eq m).trans (wIf_eq hw)
theorem h_bnext (m : jm H a = some (cBS wl s)) (hw : wl < 100000) (i0 : 0 ≤ i) (i1 : i < 2147483648) : M2 (d + 1) 44007 [.ref a, .int (zI i)] H = some (.inl (some (.int (zI (nxtB s (64 * wl - i.toNat) i.toNat)))), H) := by
  rw [M2_p rfl]
  show pBSnext [.ref a, .int (zI i)] H = _
  unfold pBSnext
  refine (wBS_eq m).trans ?_
  rw [zI_toInt (by omega) (by omega)]
  exact wIf_eq ⟨hw, i0⟩
theorem h_bcard (m : jm H a = some (cBS wl s)) (hw : wl < 100000) : M2 (d + 1) 44000 [.ref a] H = some (.inl (some (.int (zI (cntB s (64 * wl) 0)))), H) := by
  rw [M2_p rfl]
  show pBScard [.ref a] H = _
  unfold pBScard
  exact (wBS_eq m).trans (wIf_eq hw)
def dqUp (cap n : Nat) : Nat := if n + 1 < cap then cap else dqCap cap
def dqHd (cap hd n : Nat) : Nat := if n + 1 < cap then hd else hd + (dqCap cap - cap)
def dqBurn (H : AH) (cap n : Nat) : AH := if n + 1 < cap then H else jburn H 1 (dqCap cap)
theorem h_qnew (m : jm H a = some (63, 3, jL [.null, .int (zI 0), .int (zI 0)])) : M2 (d + 1) 63900 [.ref a] H = some (.inl none, jset (jburn H 1 17) a (cDQ 17 0 [])) := by
  rw [M2_p rfl]
  show pDQnew [.ref a] H = _
  unfold pDQnew
  exact wIf_eq m
theorem h_qadd (m : jm H a = some (cDQ cap hd l)) (hc : cap < 100000) (ok : okE H v) (hv : v ≠ .null) : M2 (d + 1) 63000 [.ref a, v] H = some (.inl none, jset (dqBurn H cap l.length) a (cDQ (dqUp cap l.length) (dqHd cap hd l.length) (l ++ [v]))) := by
  rw [M2_p rfl]
  show pDQadd [.ref a, v] H = _
  unfold pDQadd dqBurn dqUp dqHd
  refine ((wDQ_eq m).trans (wIf_eq ⟨ok, hv, hc⟩)).trans ?_
  by_cases e : l.length + 1 < cap
  · simp only [if_pos e]; rfl
  · simp only [if_neg e]; rfl
theorem h_qempty (m : jm H a = some (cDQ cap hd l)) (hc : cap < 100000) : M2 (d + 1) 63006 [.ref a] H = some (.inl (some (bI l.isEmpty)), H) := by
  rw [M2_p rfl]
  show pDQempty [.ref a] H = _
  unfold pDQempty
  exact (wDQ_eq m).trans (wIf_eq hc)
theorem h_qsize (m : jm H a = some (cDQ cap hd l)) (hc : cap < 100000) : M2 (d + 1) 63011 [.ref a] H = some (.inl (some (.int (zI l.length))), H) := by
  rw [M2_p rfl]
  show pDQsize [.ref a] H = _
  unfold pDQsize
  exact (wDQ_eq m).trans (wIf_eq hc)
theorem h_qpoll (m : jm H a = some (cDQ cap hd (v :: l))) (hc : cap < 100000) : M2 (d + 1) 63010 [.ref a] H = some (.inl (some v), jset H a (cDQ cap (if hd + 1 = cap then 0 else hd + 1) l)) := by
  rw [M2_p rfl]
  show pDQpoll [.ref a] H = _
  unfold pDQpoll
  exact (wDQ_eq m).trans (wIf_eq ⟨hc, by simp⟩)
def oDt (c n lr : Int) (a : Nat) : Nat → Value := jL [.int (zI c), .int (zI n), .int (zI lr), .ref a]
theorem h_qiter (m : jm H a = some (cDQ cap hd l)) (hc : cap < 100000) : M2 (d + 1) 63007 [.ref a] H = some (.inl (some (.ref H.1)), jpush H (64, 4, oDt hd l.length (-1) a)) := by
  rw [M2_p rfl]
  show pDQiter [.ref a] H = _
  unfold pDQiter
  exact (wDQ_eq m).trans (wIf_eq hc)
theorem h_dhas {q : Nat} {cu n lr : Int} (mq : jm H q = some (64, 4, oDt cu n lr a)) (c0 : 0 ≤ cu) (c1 : cu < 100000) (n0 : 0 ≤ n) (n1 : n < 100000) : M2 (d + 1) 64000 [.ref q] H = some (.inl (some (bI (decide (0 < n)))), H) := by
  rw [M2_p rfl]
  show pDIhas [.ref q] H = _
  unfold pDIhas
  exact wDi_eq mq c0 c1 n0 n1
theorem h_dnext {q k : Nat} {lr : Int} (m : jm H a = some (cDQ cap hd l)) (hc : cap < 100000) (hk : k < l.length) (hl : l.length < cap) (mq : jm H q = some (64, 4, oDt ((hd + k) % cap : Nat) (l.length - k : Nat) lr a)) : M2 (d + 1) 64001 [.ref q] H = some (.inl (some (l.getD k .null)), jset H q (64, 4, oDt ((hd + (k + 1)) % cap : Nat) (l.length - (k + 1) : Nat) ((hd + k) % cap : Nat) a)) := by
  have hm : (hd + k) % cap < cap := Nat.mod_lt _ (by omega)
  rw [M2_p rfl]
  show pDInext [.ref q] H = _
  unfold pDInext
  have e1 : l.length - ((l.length - k : Nat) : Int).toNat = k := by omega
  have e2 : (if (((hd + k) % cap : Nat) : Int) + 1 = (cap : Int) then 0 else (((hd + k) % cap : Nat) : Int) + 1) = (((hd + (k + 1)) % cap : Nat) : Int) := by
    rw [← Nat.add_assoc, Nat.add_mod (hd + k) 1 cap]
    by_cases c1 : cap = 1
    · subst c1; omega
    · rw [Nat.mod_eq_of_lt (show 1 < cap by omega)]
      by_cases c : (hd + k) % cap + 1 = cap
      · rw [if_pos (by omega), c, Nat.mod_self]; rfl
      · have z := Nat.mod_eq_of_lt (show (hd + k) % cap + 1 < cap by omega)
        rw [if_neg (by omega), z]; rfl
  refine ((wDi_eq mq (by omega) (by omega) (by omega) (by omega)).trans (wDQ_eq m)).trans ((wIf_eq ⟨hc, by omega, by omega, by rw [e1, Int.toNat_natCast]⟩).trans ?_)
  rw [e1, e2, show ((l.length - k : Nat) : Int) - 1 = ((l.length - (k + 1) : Nat) : Int) by omega]
  rfl
theorem h_streq {q : Nat} (s1 : StrAt H a b) (s2 : StrAt H q c) : M2 (d + 1) 50008 [.ref a, .ref q] H = some (.inl (some (bI (decide (b = c)))), H) := by
  rw [M2_p rfl]
  show pSTeq [.ref a, .ref q] H = _
  unfold pSTeq
  exact (wSt_eq s1).trans (wSt_eq s2)
theorem h_snew (m : jm H a = some (49, 4, jL [.null, .int (zI 0), .int (zI 0), .int (zI 0)])) : M2 (d + 1) 49900 [.ref a] H = some (.inl none, jset (jburn H 1 16) a (cSB 16 [])) := by
  rw [M2_p rfl]
  show pSBnew [.ref a] H = _
  unfold pSBnew
  exact wIf_eq m
theorem h_snewS {q : Nat} (m : jm H a = some (49, 4, jL [.null, .int (zI 0), .int (zI 0), .int (zI 0)])) (s : StrAt H q c) : M2 (d + 1) 49901 [.ref a, .ref q] H = some (.inl none, jset (jburn H 1 (c.length + 16)) a (cSB (c.length + 16) c)) := by
  rw [M2_p rfl]
  show pSBnewS [.ref a, .ref q] H = _
  unfold pSBnewS
  exact (wIf_eq (by exact m)).trans (wSt_eq s)
theorem h_sappC (m : jm H a = some (cSB cap b)) (hb : SbW b) (hc : cap < 100000) (i0 : 0 ≤ i) (i1 : i < 128) : M2 (d + 1) 49000 [.ref a, .int (zI i)] H = some (.inl (some (.ref a)), jset (sbGrow H cap (b.length + 1)) a (cSB (sbCap cap (b.length + 1)) (b ++ [i]))) := by
  rw [M2_p rfl]
  show pSBappC [.ref a, .int (zI i)] H = _
  unfold pSBappC
  refine (wSB_eq m hb).trans ?_
  rw [zI_toInt (by omega) (by omega)]
  exact wIf_eq ⟨hc, i0, i1⟩
theorem h_sappS {q : Nat} (m : jm H a = some (cSB cap b)) (hb : SbW b) (hc : cap < 100000) (s : StrAt H q c) : M2 (d + 1) 49001 [.ref a, .ref q] H = some (.inl (some (.ref a)), jset (sbGrow H cap (b.length + c.length)) a (cSB (sbCap cap (b.length + c.length)) (b ++ c))) := by
  rw [M2_p rfl]
  show pSBappS [.ref a, .ref q] H = _
  unfold pSBappS
  exact ((wSB_eq m hb).trans (wIf_eq hc)).trans (wSt_eq s)
theorem h_sappI (m : jm H a = some (cSB cap b)) (hb : SbW b) (hc : cap < 100000) (i0 : 0 ≤ i) (i1 : i < 100) : M2 (d + 1) 49003 [.ref a, .int (zI i)] H = some (.inl (some (.ref a)), jset (sbGrow H cap (b.length + (dgs i).length)) a (cSB (sbCap cap (b.length + (dgs i).length)) (b ++ dgs i))) := by
  rw [M2_p rfl]
  show pSBappI [.ref a, .int (zI i)] H = _
  unfold pSBappI
  refine (wSB_eq m hb).trans ?_
  rw [zI_toInt (by omega) (by omega)]
  exact wIf_eq ⟨hc, i0, i1⟩
theorem h_sstr (m : jm H a = some (cSB cap b)) (hb : SbW b) (hc : cap < 100000) (hl : b.length < cap) : M2 (d + 1) 49007 [.ref a] H = some (.inl (some (.ref H.1)), jpush (jpush H (50, 4, jL [.ref (H.1 + 1), .int 0, .int 0, .int 0])) (1010, b.length, fun k => .int (zI (b.getD k 0)))) := by
  rw [M2_p rfl]
  show pSBstr [.ref a] H = _
  unfold pSBstr
  exact (wSB_eq m hb).trans (wIf_eq ⟨hc, hl⟩)
end
