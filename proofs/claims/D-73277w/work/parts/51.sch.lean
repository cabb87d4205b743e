/-! schemas as they are told: what both sides read (hs: counts, columns, defaults, needs, keys, refs, checks; nm: names, tables' from 20 on, columns' from 24 on by fours) -/
def eb {α β : Type} (r : Except Er α) (f : α → Except Er β) : Except Er β := match r with
  | .error e => .error e
  | .ok a => f a
theorem eb_ok {α β : Type} {a : α} {f : α → Except Er β} : eb (.ok a) f = f a := rfl
theorem eb_er {α β : Type} {e : Er} {f : α → Except Er β} : eb (.error e) f = .error e := rfl
def keyOfH (hs : Int → Int) (t one two : Int) : Int := fnd (fun k => decide (hs (40 + k) = t ∧ hs (46 + k) = one ∧ hs (52 + k) = two)) (hs 1).toNat 0
section
variable (g : Int → Int) (z l : Int)
def colP (hs nm : Int → Int) (t q : Int) : Except Er Int := lookP g z l (fun k => nm (24 + 4 * t + k)) (hs (4 + t)).toNat q
def tabP (hs nm : Int → Int) (q : Int) : Except Er Int := lookP g z l (fun k => nm (20 + k)) (hs 0).toNat q
def colsP (hs nm : Int → Int) (t q : Int) : Except Er (Int × Int × Int) :=
  eb (colP g z l hs nm t q) fun one =>
  if kd g z l (nxt g z l q) = 1 ∧ isW g z l (nxt g z l q) wTO = false then
    eb (colP g z l hs nm t (nxt g z l q)) fun two => if two = one then .error (erx g z l (nxt g z l q) 3) else .ok (one, two, nxt g z l (nxt g z l q))
  else .ok (one, -1, nxt g z l q)
def colLoop : Nat → (Int → Int) → (Int → Int) → Int → Int → Except Er ((Int → Int) × (Int → Int) × Int)
  | 0, _, _, _, q => .error (erx g z l q 4)
  | n + 1, hs, nm, t, q =>
    if hs (4 + t) ≠ 0 ∧ isS g z l q 59 = true then .ok (fset hs 0 (hs 0 + 1), nm, q) else
    if isNm g z l q = false then .error (erx g z l q 1) else
    if 0 ≤ fnd (fun k => decide (nm (24 + 4 * t + k) = wdv g z q)) (hs (4 + t)).toNat 0 then .error (erx g z l q 3) else
    if hs (4 + t) = 4 then .error (erx g z l q 4) else
    colLoop n (fset hs (4 + t) (hs (4 + t) + 1)) (fset nm (24 + 4 * t + hs (4 + t)) (wdv g z q)) t (nxt g z l q)
def tableP (hs nm : Int → Int) (q : Int) : Except Er ((Int → Int) × (Int → Int) × Int) :=
  if hs 0 = 4 then .error (erx g z l q 4) else
  if isNm g z l (nxt g z l q) = false then .error (erx g z l (nxt g z l q) 1) else
  if 0 ≤ fnd (fun k => decide (nm (20 + k) = wdv g z (nxt g z l q))) (hs 0).toNat 0 then .error (erx g z l (nxt g z l q) 3) else
  colLoop g z l 6 (fset hs (4 + hs 0) 0) (fset nm (20 + hs 0) (wdv g z (nxt g z l q))) (hs 0) (nxt g z l (nxt g z l q))
def keyP (hs nm : Int → Int) (q : Int) : Except Er ((Int → Int) × (Int → Int) × Int) :=
  eb (tabP g z l hs nm (nxt g z l q)) fun t => eb (colsP g z l hs nm t (nxt g z l (nxt g z l q))) fun c =>
  .ok (fset (fset (fset (fset hs (40 + hs 1) t) (46 + hs 1) c.1) (52 + hs 1) c.2.1) 1 (hs 1 + 1), nm, c.2.2)
def onW (q : Int) : Int := if isW g z l q wREFUSE = true then 0 else if isW g z l q wFOLLOW = true then 1 else if isW g z l q wCLEAR = true then 2 else if isW g z l q wRESET = true then 3 else -1
def onP (q : Int) : Except Er Int := if onW g z l q < 0 then .error (erx g z l q 1) else .ok (onW g z l q)
def may (q w : Int) : Int := if isW g z l q w = true then nxt g z l q else q
def refK (hs nm : Int → Int) (two o q : Int) : Except Er (Int × Int) :=
  eb (if two < 0 then .ok (o, q) else eb (colP g z l hs nm o q) fun a => .ok (a, nxt g z l q)) fun fs =>
  eb (colP g z l hs nm o fs.2) fun a =>
  if (if two < 0 then keyOfH hs o a (-1) else if fs.1 = a then -1 else keyOfH hs o fs.1 a) < 0 then .error (erx g z l fs.2 3)
  else .ok (if two < 0 then keyOfH hs o a (-1) else if fs.1 = a then -1 else keyOfH hs o fs.1 a, nxt g z l fs.2)
def refW (hs : Int → Int) (f t one two o key g1 g2 full late : Int) : Int → Int :=
  fset (fset (fset (fset (fset (fset (fset (fset (fset (fset hs (88 + f) g1) (94 + f) g2) (58 + f) t) (64 + f) one) (70 + f) two) (76 + f) o) (82 + f) key) (100 + f) full) (106 + f) late) 2 (f + 1)
def refP (hs nm : Int → Int) (q : Int) : Except Er ((Int → Int) × (Int → Int) × Int) :=
  eb (tabP g z l hs nm (nxt g z l q)) fun t => eb (colsP g z l hs nm t (nxt g z l (nxt g z l q))) fun c =>
  if isW g z l c.2.2 wTO = false then .error (erx g z l c.2.2 1) else
  eb (tabP g z l hs nm (nxt g z l c.2.2)) fun o =>
  eb (refK g z l hs nm c.2.1 o (nxt g z l (nxt g z l c.2.2))) fun k =>
  eb (onP g z l k.2) fun g1 => eb (onP g z l (nxt g z l k.2)) fun g2 =>
  .ok (refW hs (hs 2) t c.1 c.2.1 o k.1 g1 g2 (bZ (isW g z l (nxt g z l (nxt g z l k.2)) wFULL)) (bZ (isW g z l (may g z l (nxt g z l (nxt g z l k.2)) wFULL) wLATE)), nm, may g z l (may g z l (nxt g z l (nxt g z l k.2)) wFULL) wLATE)
def defP (hs nm : Int → Int) (q : Int) : Except Er ((Int → Int) × (Int → Int) × Int) :=
  eb (tabP g z l hs nm (nxt g z l q)) fun t => eb (colP g z l hs nm t (nxt g z l (nxt g z l q))) fun a =>
  if 0 ≤ hs (8 + 4 * t + a) then .error (erx g z l (nxt g z l (nxt g z l q)) 3) else
  eb (numP g z l 0 99 (nxt g z l (nxt g z l (nxt g z l q)))) fun v =>
  .ok (fset hs (8 + 4 * t + a) v, nm, nxt g z l (nxt g z l (nxt g z l (nxt g z l q))))
def needP (hs nm : Int → Int) (q : Int) : Except Er ((Int → Int) × (Int → Int) × Int) :=
  eb (tabP g z l hs nm (nxt g z l q)) fun t => eb (colP g z l hs nm t (nxt g z l (nxt g z l q))) fun a =>
  if hs (24 + 4 * t + a) = 1 then .error (erx g z l (nxt g z l (nxt g z l q)) 3) else
  .ok (fset hs (24 + 4 * t + a) 1, nm, nxt g z l (nxt g z l (nxt g z l q)))
def isThan (q : Int) : Bool := decide (kd g z l q = 3) && isInZ (nmv g z q) 60 62
/-- a number (1), or another column (2): which, the number, the column, what is next -/
def byP (hs nm : Int → Int) (t c q : Int) : Except Er (Bool × Int × Int) :=
  if kd g z l q = 2 then eb (numP g z l 0 99 q) fun v => .ok (true, v, nxt g z l q) else
  eb (colP g z l hs nm t q) fun a => if a = c then .error (erx g z l q 3) else .ok (false, a, nxt g z l q)
def chkW (hs : Int → Int) (k t c sg : Int) (b : Bool × Int × Int) (late : Int) : Int → Int :=
  fset (fset (fset (fset (if b.1 = true then fset (fset (fset hs (124 + k) sg) (136 + k) (-1)) (130 + k) b.2.1 else fset (fset (fset hs (124 + k) sg) (136 + k) (-1)) (136 + k) b.2.1) (112 + k) t) (118 + k) c) (142 + k) late) 3 (k + 1)
def chkP (hs nm : Int → Int) (q : Int) : Except Er ((Int → Int) × (Int → Int) × Int) :=
  eb (tabP g z l hs nm (nxt g z l q)) fun t => eb (colP g z l hs nm t (nxt g z l (nxt g z l q))) fun c =>
  if isThan g z l (nxt g z l (nxt g z l (nxt g z l q))) = false then .error (erx g z l (nxt g z l (nxt g z l (nxt g z l q))) 1) else
  eb (byP g z l hs nm t c (nxt g z l (nxt g z l (nxt g z l (nxt g z l q))))) fun b =>
  .ok (chkW hs (hs 3) t c (nmv g z (nxt g z l (nxt g z l (nxt g z l q)))) b (bZ (isW g z l b.2.2 wLATE)), nm, may g z l b.2.2 wLATE)
def lineP (hs nm : Int → Int) (q : Int) : Except Er ((Int → Int) × (Int → Int) × Int) :=
  if isW g z l q wTABLE = true then tableP g z l hs nm q else
  if isW g z l q wKEY = true then (if hs 1 = 6 then .error (erx g z l q 4) else keyP g z l hs nm q) else
  if isW g z l q wREF = true then (if hs 2 = 6 then .error (erx g z l q 4) else refP g z l hs nm q) else
  if isW g z l q wDEFAULT = true then defP g z l hs nm q else
  if isW g z l q wNEED = true then needP g z l hs nm q else
  if isW g z l q wCHECK = true then (if hs 3 = 6 then .error (erx g z l q 4) else chkP g z l hs nm q) else
  .error (erx g z l q 1)
def linesP : Nat → (Int → Int) → (Int → Int) → Int → Int → Except Er ((Int → Int) × (Int → Int) × Int)
  | 0, _, _, _, q => .error (erx g z l q 1)
  | n + 1, hs, nm, ln, q => if kd g z l q = 0 then .ok (hs, nm, ln) else
    eb (lineP g z l hs nm q) fun a => eb (signP g z l 59 a.2.2) fun q' => linesP n a.1 a.2.1 (ln + 1) q'
end
def hs0 : Int → Int := fun k => if 8 ≤ k ∧ k < 24 then -1 else 0
/-! reading at a place, the tape named -/
def Rd (g : Int → Int) (z l : Int) (T : Nat → Int → Int) (q : Int) : Prop := (T 1 = g ∧ T 0 3 = z ∧ T 0 5 = l) ∧ TpOk T ∧ RsOk T ∧ NmOk T ∧ At T q ∧ T 0 16 = 0
section
variable {g : Int → Int} {z l : Int} {d m : Nat} {T : Nat → Int → Int} {h : AH} {q : Int}
theorem Rd.q0 (R : Rd g z l T q) : 0 ≤ q ∧ q ≤ z ∧ z ≤ 940 := by
  obtain ⟨⟨rfl, rfl, rfl⟩, h1, -, -, h2, -⟩ := R
  exact ⟨h2.1, h2.2.1, h1.2.2.1⟩
theorem Rd.k12 (R : Rd g z l T q) : T 0 12 = kd g z l q := by
  obtain ⟨⟨rfl, rfl, rfl⟩, -, -, -, h2, -⟩ := R
  exact h2.2.2.1
theorem Rd.w18 (R : Rd g z l T q) (hk : kd g z l q = 1) : T 0 18 = wdv g z q := by
  obtain ⟨⟨rfl, rfl, rfl⟩, -, -, -, h2, -⟩ := R
  exact h2.2.2.2.2.2.1 hk
theorem Rd.n15 (R : Rd g z l T q) (hk : kd g z l q = 2 ∨ kd g z l q = 3) : T 0 15 = nmv g z q := by
  obtain ⟨⟨rfl, rfl, rfl⟩, -, -, -, h2, -⟩ := R
  exact h2.2.2.2.2.2.2 hk
theorem Rd.st (R : Rd g z l T q) {i v : Int} (hi : i = 17 ∨ i = 19 ∨ i = 20 ∨ i = 21 ∨ i = 22 ∨ 22 < i) : Rd g z l (ts T 0 i v) q := by
  obtain ⟨⟨h1, h2, h3⟩, ⟨a, b⟩, c, e, f, f16⟩ := R
  have e16 : ts T 0 i v 0 16 = T 0 16 := by rw [ts_eq, fset_ne (by omega)]
  have e1 : ts T 0 i v 1 = T 1 := ts_ne (by decide)
  have e6 : ts T 0 i v 6 = T 6 := ts_ne (by decide)
  have e7 : ts T 0 i v 7 = T 7 := ts_ne (by decide)
  have e3 : ts T 0 i v 0 3 = T 0 3 := by rw [ts_eq, fset_ne (by omega)]
  have e5 : ts T 0 i v 0 5 = T 0 5 := by rw [ts_eq, fset_ne (by omega)]
  unfold Rd TpOk RsOk NmOk
  rw [e1, e3, e5, e6, e7, e16]
  exact ⟨⟨h1, h2, h3⟩, ⟨a, b⟩, c, e, f.st (by omega), f16⟩
theorem Rd.tg (R : Rd g z l T q) {k : Nat} {f : Int → Int} (hk : k ≠ 0) (h1 : k ≠ 1) (h6 : k ≠ 6) (h7 : k ≠ 7) : Rd g z l (tg T k f) q := by
  obtain ⟨⟨g1, g2, g3⟩, ⟨a, b⟩, c, e, A, A16⟩ := R
  unfold Rd TpOk RsOk NmOk
  rw [tg_ne (Ne.symm hk), tg_ne (Ne.symm h1), tg_ne (Ne.symm h6), tg_ne (Ne.symm h7)]
  exact ⟨⟨g1, g2, g3⟩, ⟨a, b⟩, c, e, A.tg hk h1, A16⟩
theorem Rd.nm (R : Rd g z l T q) {f : Int → Int} (hf : ∀ i, 0 ≤ f i ∧ f i < 72057594037927936) : Rd g z l (Jvm.Pilot.CFollowingRefsLaw_law_r9816_95ccbe.tg T 6 f) q := by
  obtain ⟨⟨g1, g2, g3⟩, ⟨a, b⟩, c, e, A, A16⟩ := R
  unfold Rd TpOk RsOk NmOk
  rw [tg_ne (by decide), tg_ne (by decide), tg_ne (by decide), tg_eq]
  exact ⟨⟨g1, g2, g3⟩, ⟨a, b⟩, c, hf, A.tg (by decide) (by decide), A16⟩
theorem rd_next (R : Rd g z l T q) : ∃ T', M (d + 2) 7071 [.ref m] (tw m T h) = some (.inl none, tw m T' h) ∧ PF T T' ∧ sm5 T T' ∧ Rd g z l T' (nxt g z l q) := by
  obtain ⟨⟨rfl, rfl, rfl⟩, h1, h2, h3, h4, h5⟩ := R
  obtain ⟨T', n1, n2, n3, n4⟩ := tm_nextA (d := d) (m := m) (h := h) h1 h4
  exact ⟨T', n1, n2, n3, pf_tok n2, h1.pf n2, h2.pf n2, h3.pf n2, n4, by rw [n3 16 (by omega), h5]⟩
theorem rd_isW (R : Rd g z l T q) {w : Int} (h1 : 0 ≤ w) (h2 : w < 72057594037927936) : M (d + 1) 7056 [.ref m, .long (zJ w)] (tw m T h) = some (.inl (some (.int (zI (bZ (isW g z l q w))))), tw m T h) := by
  obtain ⟨⟨rfl, rfl, rfl⟩, -, -, -, hA, -⟩ := R
  exact tm_isW hA h1 h2
theorem rd_isS (R : Rd g z l T q) {c : Int} (h1 : 0 ≤ c) (h2 : c < 256) : M (d + 1) 7052 [.ref m, .int (zI c)] (tw m T h) = some (.inl (some (.int (zI (bZ (isS g z l q c))))), tw m T h) := by
  obtain ⟨⟨rfl, rfl, rfl⟩, -, -, -, hA, -⟩ := R
  exact tm_isS hA h1 h2
theorem rd_isNm (R : Rd g z l T q) : M (d + 1) 7046 [.ref m] (tw m T h) = some (.inl (some (.int (zI (bZ (isNm g z l q))))), tw m T h) := by
  obtain ⟨⟨rfl, rfl, rfl⟩, -, hR, -, hA, -⟩ := R
  exact tm_isNm hR hA
theorem rd_fl (R : Rd g z l T q) {k : Int} (hk : kd g z l q = 4 → k = 1) : Fl (bdT T k) (erx g z l q k) := by
  obtain ⟨⟨rfl, rfl, rfl⟩, -, -, -, hA, -⟩ := R
  exact bd_fl hA hk
theorem rd_seek (R : Rd g z l T q) (hk : kd g z l q = 1) {fr n : Int} (h0 : 0 ≤ fr) (h1 : fr + n ≤ 40) (h2 : 0 ≤ n) : M (d + 1) 7100 [.ref m, .int (zI fr), .int (zI n)] (tw m T h) = some (.inl (some (.int (zI (fnd (fun k => decide (T 6 (fr + k) = wdv g z q)) n.toNat 0)))), tw m T h) := by
  have e := R.w18 hk
  obtain ⟨⟨rfl, rfl, rfl⟩, -, -, hN, hA, -⟩ := R
  rw [← e]
  exact tm_seek hN (by rw [e]; exact wdv_rg q) h0 h1 h2
theorem rd_takes (R : Rd g z l T q) {low high : Int} (l0 : -1000 ≤ low) (l1 : low ≤ 1000) (l2 : -1000 ≤ high) (l3 : high ≤ 1000) :
    TM (numP g z l low high q) m T h (M (d + 3) 7111 [.ref m, .int (zI low), .int (zI high)] (tw m T h)) (fun a T' => T' 0 19 = a ∧ Rd g z l T' (nxt g z l q) ∧ T' 0 21 = T 0 21 ∧ T' 0 22 = T 0 22) := by
  obtain ⟨⟨rfl, rfl, rfl⟩, h1, h2, h3, hA, h16⟩ := R
  obtain ⟨T', a1, a2, a3⟩ := tm_takes (d := d) (m := m) (h := h) h1 hA l0 l1 l2 l3
  refine ⟨T', a1, a2, ?_⟩
  generalize numP (T 1) (T 0 3) (T 0 5) low high q = r at a3
  cases r with
  | error e => exact a3
  | ok a => exact ⟨a3.1, ⟨pf_tok a2, h1.pf a2, h2.pf a2, h3.pf a2, a3.2.1, a3.2.2.2.2.trans h16⟩, a3.2.2.1, a3.2.2.2.1⟩
theorem rd_look (R : Rd g z l T q) {fr n : Int} (h0 : 0 ≤ fr) (h1 : fr + n ≤ 40) (h2 : 0 ≤ n) :
    TM (lookP g z l (fun k => T 6 (fr + k)) n.toNat q) m T h (M (d + 2) 7068 [.ref m, .int (zI fr), .int (zI n)] (tw m T h)) (fun a T' => T' 0 19 = a ∧ Rd g z l T' q ∧ T' 0 21 = T 0 21 ∧ T' 0 22 = T 0 22 ∧ 0 ≤ a ∧ a < n) := by
  obtain ⟨⟨rfl, rfl, rfl⟩, g1, g2, g3, hA, h16⟩ := R
  obtain ⟨T', a1, a2, a3⟩ := tm_looksAt (d := d) (m := m) (h := h) g2 g3 hA h0 h1 h2
  refine ⟨T', a1, a2, ?_⟩
  rw [show lookT T fr n q = lookP (T 1) (T 0 3) (T 0 5) (fun k => T 6 (fr + k)) n.toNat q from rfl] at a3
  generalize lookP (T 1) (T 0 3) (T 0 5) (fun k => T 6 (fr + k)) n.toNat q = r at a3
  cases r with
  | error e => exact a3
  | ok a => exact ⟨a3.1, ⟨pf_tok a2, g1.pf a2, g2.pf a2, g3.pf a2, a3.2.1, a3.2.2.2.2.1.trans h16⟩, a3.2.2.1, a3.2.2.2.1, a3.2.2.2.2.2⟩
theorem rd_name (R : Rd g z l T q) {fr n : Int} (h0 : 0 ≤ fr) (h1 : fr + n ≤ 40) (h2 : 0 ≤ n) :
    TM (lookP g z l (fun k => T 6 (fr + k)) n.toNat q) m T h (M (d + 3) 7117 [.ref m, .int (zI fr), .int (zI n)] (tw m T h)) (fun a T' => T' 0 19 = a ∧ Rd g z l T' (nxt g z l q) ∧ T' 0 21 = T 0 21 ∧ T' 0 22 = T 0 22 ∧ 0 ≤ a ∧ a < n) := by
  obtain ⟨⟨rfl, rfl, rfl⟩, g1, g2, g3, hA, h16⟩ := R
  obtain ⟨T', a1, a2, a3⟩ := tm_takesName (d := d) (m := m) (h := h) g1 g2 g3 hA h0 h1 h2
  refine ⟨T', a1, a2, ?_⟩
  rw [show lookT T fr n q = lookP (T 1) (T 0 3) (T 0 5) (fun k => T 6 (fr + k)) n.toNat q from rfl] at a3
  generalize lookP (T 1) (T 0 3) (T 0 5) (fun k => T 6 (fr + k)) n.toNat q = r at a3
  cases r with
  | error e => exact a3
  | ok a => exact ⟨a3.1, ⟨pf_tok a2, g1.pf a2, g2.pf a2, g3.pf a2, a3.2.1, a3.2.2.2.2.1.trans h16⟩, a3.2.2.1, a3.2.2.2.1, a3.2.2.2.2.2⟩
theorem rd_sign (R : Rd g z l T q) {c : Int} (h1 : 0 ≤ c) (h2 : c < 256) :
    TM (signP g z l c q) m T h (M (d + 3) 7102 [.ref m, .int (zI c)] (tw m T h)) (fun a T' => a = nxt g z l q ∧ Rd g z l T' a) := by
  obtain ⟨⟨rfl, rfl, rfl⟩, g1, g2, g3, hA, h16⟩ := R
  obtain ⟨T', a1, a2, a3⟩ := tm_sign (d := d) (m := m) (h := h) g1 hA h1 h2
  refine ⟨T', a1, a2, ?_⟩
  generalize signP (T 1) (T 0 3) (T 0 5) c q = r at a3
  cases r with
  | error e => exact a3
  | ok a => exact ⟨a3.1, pf_tok a2, g1.pf a2, g2.pf a2, g3.pf a2, a3.2.1, a3.2.2.trans h16⟩
end
