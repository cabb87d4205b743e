/-! THE SIMULATION, I: how JVM-lite's heap and variables stand for the machine's -/
def mutT (t : Nat) : Bool := Nat.blt t 100 || (Nat.ble 1000 t && Nat.beq (t % 10) 0)
def okV (v : Value) : Bool := isI v || isJ v || isR v
def arrTy (t : Nat) : FieldType := if t / 10 = 100 then .int else if t / 10 = 101 then .byte else if t / 10 = 102 then .boolean else if t / 10 = 103 then .long else if t / 10 = 104 then .object "java/lang/Object" else if t / 10 = 105 then .object "FollowingRefs$Store" else if t / 10 = 106 then .object "FollowingRefs$Kept" else .object "java/lang/Integer"
theorem ff_name {s : State} {C n d : String} {c i : Nat} {k : Class} {f : Field} (h : s.fieldFound? C n d = some (c, k, i, f)) : f.name = n := by
  cases hp : parseFieldDescriptor d with
  | none => simp [State.fieldFound?, hp] at h
  | some t => exact (State.fieldFound?_type h hp).1
theorem slotIs_det {s : State} {C n d : String} {i j : Nat} (h : SlotIs s C n d i) (h' : SlotIs s C n d j) : i = j := by
  obtain ⟨cf, kf, fi, fd, e1, e2⟩ := h
  obtain ⟨cf', kf', fi', fd', e3, e4⟩ := h'
  cases e1.symm.trans e3
  exact e2.symm.trans e4
/-- an object's cell -/
def ckO (U : State) (t : Nat) (f : Nat → Value) (ce : Cell) : Prop :=
  t % 100 ∈ jtCon ∧ U.vm.findClass (jtCls (t % 100)) = some ce.cls ∧ ∀ k r, (jtT (t % 100))[k]? = some r → ∃ i, SlotIs U r.1 r.2.1 r.2.2.1 i ∧ ce.slots[i]? = some (f k)
/-- what may lie in an array of tag t -/
def vOk (U : State) (H : Heap) (t : Nat) (v : Value) : Prop :=
  fits (arrTy t) v = true ∧ (t / 10 = 104 → ∀ b, v = .ref b → ∃ (ce : Cell) (c0 : ClassId), H[b]? = some ce ∧ ce.vm.isStatics = false ∧ (∃ k, U.vm.classes[ce.cls]? = some k) ∧ U.vm.findClass "java/lang/Object" = some c0 ∧ U.vm.assignable ce.cls c0 = true)
/-- the cells of H are in H' still, of the same classes -/
def Kp (H H' : Heap) : Prop := ∀ (b : Nat) (ce : Cell), H[b]? = some ce → ∃ ce' : Cell, H'[b]? = some ce' ∧ ce'.cls = ce.cls ∧ ce'.vm = ce.vm
theorem vOk_kept {U : State} {H H' : Heap} {t : Nat} {v : Value} (hk : Kp H H') (h : vOk U H t v) : vOk U H' t v := by
  refine ⟨h.1, fun ht b hb => ?_⟩
  obtain ⟨ce, c0, h1, h2, h3, h4, h5⟩ := h.2 ht b hb
  obtain ⟨ce', k1, k2, k3⟩ := hk b ce h1
  exact ⟨ce', c0, k1, by rw [k3]; exact h2, by rw [k2]; exact h3, h4, by rw [k2]; exact h5⟩
theorem Kp_set {H H' : Heap} {a i : Nat} {ce : Cell} {v : Value} (h1 : H[a]? = some ce) (h2 : H'[a]? = some (ce.setSlot i v)) (ho : ∀ q : Nat, q ≠ a → H'[q]? = H[q]?) : Kp H H' := by
  intro b cb hb
  by_cases e : b = a
  · subst e
    cases h1.symm.trans hb
    exact ⟨_, h2, rfl, rfl⟩
  · exact ⟨cb, (ho b e).trans hb, rfl, rfl⟩
theorem Kp_push {H : Heap} {ce : Cell} : Kp H (H.push ce) := by
  intro b cb hb
  have hl : b < H.size := (Array.getElem?_eq_some_iff.mp hb).1
  exact ⟨cb, by rw [Array.getElem?_push, if_neg (by omega)]; exact hb, rfl, rfl⟩
/-- an array's cell -/
def ckA (U : State) (H : Heap) (t n : Nat) (f : Nat → Value) (ce : Cell) : Prop :=
  U.isArrayOf ce (arrTy t) ∧ (t / 10 ≠ 107 → U.vm.findClass (arrN t) = some ce.cls) ∧ ce.slots.size = n ∧ (∀ i, i < n → ce.slots[i]? = some (f i)) ∧ ∀ i, i < n → vOk U H t (f i)
/-- the cell at q is as c says -/
def ck (U : State) (b0 q : Nat) (c : Cl) (H : Heap) : Prop :=
  ∃ ce : Cell, H[q]? = some ce ∧ ce.vm.isStatics = false ∧ ce.vm ≠ .unknown ∧ (mutT c.1 = true → ce.vm = .none ∧ b0 ≤ q) ∧ (c.1 < 200 → ckO U c.1 c.2.2 ce) ∧ (200 ≤ c.1 → 1000 ≤ c.1 ∧ ckA U H c.1 c.2.1 c.2.2 ce)
theorem ck_kept {U : State} {b0 q : Nat} {c : Cl} {H H' : Heap} (h : ck U b0 q c H) (e : H'[q]? = H[q]?) (hk : Kp H H') : ck U b0 q c H' := by
  obtain ⟨ce, h1, h2, h3, h4, h5, h6⟩ := h
  exact ⟨ce, e.trans h1, h2, h3, h4, h5, fun z => ⟨(h6 z).1, (h6 z).2.1, (h6 z).2.2.1, (h6 z).2.2.2.1, (h6 z).2.2.2.2.1, fun i hi => vOk_kept hk ((h6 z).2.2.2.2.2 i hi)⟩⟩
theorem ck_lt {U : State} {b0 q : Nat} {c : Cl} {H : Heap} (h : ck U b0 q c H) : q < H.size := by
  obtain ⟨ce, h1, h2⟩ := h
  exact (Array.getElem?_eq_some_iff.mp h1).1
/-- the machine's heap is as JVM-lite's says -/
def RpH (s0 : State) (E : Nat → Value) (h : AH) (H : Heap) : Prop :=
  jn h = H.size ∧ s0.heap.size ≤ H.size ∧ (∀ q : Nat, q < s0.heap.size → H[q]? = s0.heap[q]?) ∧ je h = E ∧ ∀ q c, jm h q = some c → ck s0 s0.heap.size q c H
theorem RpH_set {s0 : State} {E : Nat → Value} {h : AH} {H H' : Heap} {a t n : Nat} {f f' : Nat → Value} (hR : RpH s0 E h H) (hm : mutT t = true) (hc : jm h a = some (t, n, f)) (hck : ck s0 s0.heap.size a (t, n, f') H') (hs : H'.size = H.size) (ho : ∀ q : Nat, q ≠ a → H'[q]? = H[q]?) (hk : Kp H H') :
    RpH s0 E (jset h a (t, n, f')) H' := by
  obtain ⟨h1, h2, h3, h4, h5⟩ := hR
  obtain ⟨ce, g1, -, -, g4, -⟩ := h5 a _ hc
  have hb := (g4 hm).2
  refine ⟨h1.trans hs.symm, by omega, fun q hq => ?_, h4, fun q c e => ?_⟩
  · rw [ho q (by omega)]; exact h3 q hq
  · have e' : (if q = a then some (t, n, f') else jm h q) = some c := e
    by_cases hq : q = a
    · rw [if_pos hq] at e'
      cases e'; subst hq; exact hck
    · rw [if_neg hq] at e'
      exact ck_kept (h5 q c e') (ho q hq) hk
theorem RpH_push {s0 : State} {E : Nat → Value} {h : AH} {H : Heap} {c : Cl} {ce : Cell} (hR : RpH s0 E h H) (hck : ck s0 s0.heap.size H.size c (H.push ce)) : RpH s0 E (jpush h c) (H.push ce) := by
  obtain ⟨h1, h2, h3, h4, h5⟩ := hR
  have h1' : h.1 = H.size := h1
  refine ⟨by show h.1 + 1 = _; rw [h1', Array.size_push], by rw [Array.size_push]; omega, fun q hq => ?_, h4, fun q c' e => ?_⟩
  · rw [Array.getElem?_push, if_neg (by omega)]; exact h3 q hq
  · have e' : (if q = h.1 then some c else jm h q) = some c' := e
    by_cases hq : q = h.1
    · rw [if_pos hq] at e'
      cases e'; rw [hq, h1']; exact hck
    · rw [if_neg hq] at e'
      have hl := ck_lt (h5 q c' e')
      exact ck_kept (h5 q c' e') (by rw [Array.getElem?_push, if_neg (by omega)]) Kp_push
theorem RpH_F {s0 : State} {E : Nat → Value} {h : AH} {H : Heap} (hR : RpH s0 E h H) {s : State} {A : Nat → Prop} {locs : List Loc} (hs : s.heap.size ≤ H.size) (h0 : ∀ q : Nat, q < s.heap.size → ¬ A q → H[q]? = s.heap[q]?) (hl : ∀ z ∈ locs, A z.base) : va_S A s.heap H locs := ⟨hs, h0, hl⟩
/-! the words, at every state of the run -/
section
variable {s0 s : State} {args0 args : Array Value}
theorem jw (hT : ∀ w ∈ lw_tbl, w.before args0 s0 = true) (hW : s0.WarmedH s.vm) {w : Cond} (h : w ∈ lw_all) : w.before args s = true := word_at hW (lw_self w h).2 (hT w (lw_all_tbl h))
theorem jw_F (hT : ∀ w ∈ lw_tbl, w.before args0 s0 = true) (hW : s0.WarmedH s.vm) {a : String} {i : Nat} {b n d h : String} (hw : Cond.fieldLinkNest a i b n d h ∈ lw_tbl) : (Cond.fieldLinkNest a i b n d h).before args s = true := va_Nw.use rfl (va_Nw.warmF hW (va_Nw.of rfl (hT _ hw)))
theorem jw_M (hT : ∀ w ∈ lw_tbl, w.before args0 s0 = true) (hW : s0.WarmedH s.vm) {a : String} {i : Nat} {x : MethodName} {h : String} (hw : Cond.methodLinkNest a i x h ∈ lw_tbl) : (Cond.methodLinkNest a i x h).before args s = true := va_Nw.use rfl (va_Nw.warmM hW (va_Nw.of rfl (hT _ hw)))
theorem jw_D (hT : ∀ w ∈ lw_tbl, w.before args0 s0 = true) (hW : s0.WarmedH s.vm) {x : MethodName} (hw : Cond.declares x ∈ lw_tbl) : va_Nw (.declares x) s := va_Nw.warmD hW (va_Nw.of rfl (hT _ hw))
theorem jw_C (hT : ∀ w ∈ lw_tbl, w.before args0 s0 = true) (hW : s0.WarmedH s.vm) {C D : String} (hw : Cond.castable C D ∈ lw_tbl) : va_Nw (.castable C D) s := va_Nw.warmC hW (va_Nw.of rfl (hT _ hw))
theorem jw_I (hT : ∀ w ∈ lw_tbl, w.before args0 s0 = true) (hW : s0.WarmedH s.vm) {C : String} {x y : MethodName} (hx : x.cls ≠ "java/lang/invoke/MethodHandle" ∧ x.cls ≠ "java/lang/invoke/VarHandle")
    (h1 : Cond.declares x ∈ lw_tbl) (h2 : Cond.interfaceMethod x.cls x.cls x.name x.desc ∈ lw_tbl) (h3 : Cond.publicMethod y ∈ lw_tbl) (h4 : Cond.unhidden C x.name x.desc ∈ lw_tbl) (h5 : Cond.castable C x.cls ∈ lw_tbl) : va_Fw C x y s :=
  va_Fw.moved hx hW.alike (va_Fw.of (hT _ h1) (hT _ h2) (hT _ h3) (hT _ h4) (hT _ h5))
theorem jw_P (hT : ∀ w ∈ lw_tbl, w.before args0 s0 = true) (hW : s0.WarmedH s.vm) {y : MethodName} (hw : Cond.privateMethod y ∈ lw_tbl) : s.PrivateAt y := Cond.privateMethod_at (Cond.privateMethod_warm (args := args0) (args' := #[]) hW (hT _ hw))
end
/-! fields -/
theorem conLay {k : Nat} (hk : k ∈ jtCon) {i : Nat} {r : String × String × String × Bool} (h : (jtT k)[i]? = some r) : layW (jtCls k) r ∈ lw_all ∧ ((jtT k).map fun f => f.2.1).Nodup := by
  rcases gd_jtT k with (e | e) | ⟨h1, h2, -⟩
  · rw [e] at h; simp at h
  · subst e; exact absurd hk (by decide)
  · exact ⟨h1 r (List.mem_of_getElem? h), h2⟩
theorem layW_or {args : Array Value} {s : State} {C : String} {r : String × String × String × Bool} (h : (layW C r).before args s = true) : (Cond.lays C r.1 r.2.1 r.2.2.1).before args s = true ∨ (Cond.laysFinal C r.1 r.2.1 r.2.2.1).before args s = true := by
  obtain ⟨a, b, c, d⟩ := r
  cases d
  · exact Or.inl h
  · exact Or.inr h
theorem nodup_at {α : Type} {l : List α} (h : l.Nodup) {i j : Nat} {a : α} (hi : l[i]? = some a) (hj : l[j]? = some a) : i = j := by
  obtain ⟨i1, i2⟩ := List.getElem?_eq_some_iff.mp hi
  obtain ⟨j1, j2⟩ := List.getElem?_eq_some_iff.mp hj
  have hp := List.pairwise_iff_getElem.mp h
  rcases Nat.lt_trichotomy i j with q | q | q
  · exact absurd (i2.trans j2.symm) (hp i j i1 j1 q)
  · exact q
  · exact absurd (j2.trans i2.symm) (hp j i j1 i1 q)
theorem ckO_set {s0 : State} {args0 : Array Value} (hT : ∀ w ∈ lw_tbl, w.before args0 s0 = true) {t k i : Nat} {r : String × String × String × Bool} {f : Nat → Value} {ce : Cell} {v : Value} (h : ckO s0 t f ce) (hr : (jtT (t % 100))[k]? = some r) (hi : SlotIs s0 r.1 r.2.1 r.2.2.1 i) : ckO s0 t (ju f k v) (ce.setSlot i v) := by
  obtain ⟨h1, h2, h3⟩ := h
  refine ⟨h1, h2, fun k' r' hr' => ?_⟩
  obtain ⟨i', hi', hv'⟩ := h3 k' r' hr'
  refine ⟨i', hi', ?_⟩
  have hl' : i' < ce.slots.size := (Array.getElem?_eq_some_iff.mp hv').1
  show (ce.slots.setIfInBounds i v)[i']? = _
  by_cases hk : k' = k
  · subst hk
    cases hr.symm.trans hr'
    have e := slotIs_det hi hi'
    subst e
    simp [ju, hl']
  · have hne : i ≠ i' := by
      obtain ⟨w1, nd⟩ := conLay h1 hr
      obtain ⟨w2, -⟩ := conLay h1 hr'
      obtain ⟨cf, kf, fi, fd, e1, e2⟩ := hi
      obtain ⟨cf', kf', fi', fd', e3, e4⟩ := hi'
      rw [← e2, ← e4]
      refine u_apart (layW_or (hT _ (lw_all_tbl w1))) (layW_or (hT _ (lw_all_tbl w2))) e1 e3 ?_
      rw [ff_name e1, ff_name e3]
      intro hn
      have g1 : ((jtT (t % 100)).map fun f => f.2.1)[k]? = some r.2.1 := by rw [List.getElem?_map, hr]; rfl
      have g2 : ((jtT (t % 100)).map fun f => f.2.1)[k']? = some r'.2.1 := by rw [List.getElem?_map, hr']; rfl
      rw [← hn] at g2
      exact hk (nodup_at nd g2 g1)
    rw [Array.getElem?_setIfInBounds_ne hne, hv']
    simp [ju, hk]
theorem ckA_set {s0 : State} {H H' : Heap} {t n i : Nat} {f : Nat → Value} {ce : Cell} {v : Value} (h : ckA s0 H t n f ce) (hk : Kp H H') (hv : vOk s0 H' t v) : ckA s0 H' t n (ju f i v) (ce.setSlot i v) := by
  obtain ⟨⟨a1, a2⟩, h2, h3, h4, h5⟩ := h
  refine ⟨⟨a1, a2⟩, h2, by rw [← h3]; exact k2_slotsz _ _ _, fun j hj => ?_, fun j hj => ?_⟩
  · have hl : j < ce.slots.size := by omega
    show (ce.slots.setIfInBounds i v)[j]? = _
    by_cases e : j = i
    · subst e
      simp [ju, hl]
    · rw [Array.getElem?_setIfInBounds_ne (fun q => e q.symm), h4 j hj]
      simp [ju, e]
  · by_cases e : j = i
    · simp only [ju, e, if_true]; exact hv
    · simp only [ju, e, if_false]; exact vOk_kept hk (h5 j hj)
/-! variables -/
def LKn (L : List Value) (i : Nat) : Bool := decide (i < L.length) && (isI (lg L i) || isR (lg L i) || (isJ (lg L i) && (lg L (i + 1) == jhalf)))
def KL (L : List Value) : List (Nat × Value) := (List.range L.length).filterMap fun i => if LKn L i = true then some (i, lg L i) else none
theorem KL_mem {L : List Value} {q : Nat × Value} : q ∈ KL L ↔ LKn L q.1 = true ∧ q.2 = lg L q.1 := by
  unfold KL
  rw [List.mem_filterMap]
  constructor
  · rintro ⟨i, -, h⟩
    by_cases hk : LKn L i = true
    · rw [if_pos hk] at h; cases h; exact ⟨hk, rfl⟩
    · rw [if_neg hk] at h; cases h
  · rintro ⟨h1, h2⟩
    refine ⟨q.1, List.mem_range.mpr ?_, by rw [if_pos h1, ← h2]⟩
    simp only [LKn, Bool.and_eq_true, decide_eq_true_eq] at h1
    exact h1.1
def LVr (ls : Array Slot) (L : List Value) (nL : Nat) : Prop := lv_has ls nL (KL L) ∧ L.length = nL
theorem LVr_get {ls : Array Slot} {L : List Value} {nL i : Nat} (h : LVr ls L nL) (hk : LKn L i = true) : ls[i]? = some (.val (lg L i)) := h.1.2.2 (i, lg L i) (KL_mem.mpr ⟨hk, rfl⟩)
theorem lg_lt {L : List Value} {i : Nat} {v : Value} (h : lg L i = v) (hv : v ≠ jno) : i < L.length := by
  by_cases hl : i < L.length
  · exact hl
  · exfalso
    apply hv
    rw [← h]
    show L.getD i jno = jno
    rw [List.getD_eq_getElem?_getD, List.getElem?_eq_none (by omega)]
    rfl
theorem LKn_I {L : List Value} {i : Nat} {x : Int32} (h : lg L i = .int x) : LKn L i = true := by
  have := lg_lt h (by simp)
  simp [LKn, h, isI, this]
theorem LKn_R {L : List Value} {i : Nat} {v : Value} (h : lg L i = v) (hv : isR v = true) : LKn L i = true := by
  have := lg_lt h (by intro e; rw [e] at hv; cases hv)
  simp [LKn, h, hv, this]
theorem LKn_J {L : List Value} {i : Nat} {x : Int64} (h : lg L i = .long x) (h2 : lg L (i + 1) = jhalf) : LKn L i = true := by
  have := lg_lt h (by simp)
  simp [LKn, h, h2, isJ, this]
theorem lg_set {L : List Value} {i j : Nat} {v : Value} (hi : i < L.length) : lg (L.set i v) j = if j = i then v else lg L j := by
  show (L.set i v).getD j jno = _
  rw [List.getD_eq_getElem?_getD, List.getElem?_set]
  by_cases e : i = j
  · subst e; simp [hi]
  · rw [if_neg e, if_neg (fun q => e q.symm)]
    show _ = L.getD j jno
    rw [List.getD_eq_getElem?_getD]
theorem LVr_set1 {ls' : Array Slot} {L : List Value} {nL i : Nat} {v : Value} (hL : L.length = nL) (hi : i < nL) (hv : v ≠ jhalf) (h : lv_has ls' nL ((i, v) :: (KL L).filter (fun q => !(q.1 == i) && !(q.1 + 1 == i && q.2.category == 2)))) : LVr ls' (L.set i v) nL := by
  have hi' : i < L.length := by omega
  refine ⟨⟨h.1, h.2.1, fun q hq => ?_⟩, by rw [List.length_set]; exact hL⟩
  obtain ⟨k1, k2⟩ := KL_mem.mp hq
  by_cases e : q.1 = i
  · have : q = (i, v) := by rw [lg_set hi', if_pos e] at k2; exact Prod.ext e k2
    rw [this]
    exact h.2.2 _ List.mem_cons_self
  · rw [lg_set hi', if_neg e] at k2
    refine h.2.2 q (List.mem_cons_of_mem _ (List.mem_filter.mpr ⟨KL_mem.mpr ⟨?_, k2⟩, ?_⟩))
    · simp only [LKn, List.length_set, lg_set hi', if_neg e, Bool.and_eq_true, Bool.or_eq_true, decide_eq_true_eq, beq_iff_eq] at k1 ⊢
      refine ⟨k1.1, k1.2.imp id fun z => ⟨z.1, ?_⟩⟩
      have z2 := z.2
      by_cases e2 : q.1 + 1 = i
      · rw [if_pos e2] at z2; exact absurd z2 hv
      · rw [if_neg e2] at z2; exact z2
    · simp only [LKn, List.length_set, lg_set hi', if_neg e, Bool.and_eq_true, Bool.or_eq_true, decide_eq_true_eq, beq_iff_eq] at k1
      simp only [Bool.and_eq_true, Bool.not_eq_true', beq_eq_false_iff_ne, ne_eq, Bool.and_eq_false_iff]
      refine ⟨e, ?_⟩
      by_cases e2 : q.1 + 1 = i
      · refine Or.inr ?_
        rcases k1.2 with (z | z) | z
        · rw [k2]; intro c; cases hq2 : lg L q.1 <;> rw [hq2] at z c <;> first | (cases z; done) | (cases c; done) | (simp [Value.category] at c; done) | simp [isI] at z
        · rw [k2]; intro c; cases hq2 : lg L q.1 <;> rw [hq2] at z c <;> first | (cases z; done) | (cases c; done) | (simp [Value.category] at c; done) | simp [isR] at z
        · have z2 := z.2
          rw [if_pos e2] at z2; exact absurd z2 hv
      · exact Or.inl e2
theorem LVr_set2 {ls' : Array Slot} {L : List Value} {nL i : Nat} {x : Int64} (hL : L.length = nL) (hi : i + 1 < nL) (h : lv_has ls' nL ((i, .long x) :: (KL L).filter (fun q => !(q.1 == i) && (!(q.1 == i + 1) && !(q.1 + 1 == i && q.2.category == 2))))) : LVr ls' ((L.set i (.long x)).set (i + 1) jhalf) nL := by
  have hi' : i < L.length := by omega
  have hi2 : i + 1 < (L.set i (.long x)).length := by rw [List.length_set]; omega
  have lgs : ∀ j, lg ((L.set i (.long x)).set (i + 1) jhalf) j = if j = i + 1 then jhalf else if j = i then .long x else lg L j := fun j => by rw [lg_set hi2, lg_set hi']
  refine ⟨⟨h.1, h.2.1, fun q hq => ?_⟩, by rw [List.length_set, List.length_set]; exact hL⟩
  obtain ⟨k1, k2⟩ := KL_mem.mp hq
  simp only [LKn, List.length_set, lgs, Bool.and_eq_true, Bool.or_eq_true, decide_eq_true_eq, beq_iff_eq] at k1
  rw [lgs] at k2
  by_cases e1 : q.1 = i + 1
  · rw [if_pos e1] at k1
    rcases k1.2 with (z | z) | z
    · cases z
    · cases z
    · cases z.1
  · rw [if_neg e1] at k1 k2
    by_cases e : q.1 = i
    · rw [if_pos e] at k2
      have : q = (i, .long x) := Prod.ext e k2
      rw [this]
      exact h.2.2 _ List.mem_cons_self
    · rw [if_neg e] at k1 k2
      have hx : isI (lg L q.1) = true ∨ isR (lg L q.1) = true ∨ (isJ (lg L q.1) = true ∧ lg L (q.1 + 1) = jhalf ∧ q.1 + 1 ≠ i) := by
        rcases k1.2 with (z | z) | z
        · exact Or.inl z
        · exact Or.inr (Or.inl z)
        · refine Or.inr (Or.inr ⟨z.1, ?_⟩)
          have z2 := z.2
          rw [if_neg (by omega)] at z2
          by_cases e2 : q.1 + 1 = i
          · rw [if_pos e2] at z2; cases z2
          · rw [if_neg e2] at z2; exact ⟨z2, e2⟩
      refine h.2.2 q (List.mem_cons_of_mem _ (List.mem_filter.mpr ⟨KL_mem.mpr ⟨?_, k2⟩, ?_⟩))
      · simp only [LKn, Bool.and_eq_true, Bool.or_eq_true, decide_eq_true_eq, beq_iff_eq]
        refine ⟨k1.1, ?_⟩
        rcases hx with z | z | z
        · exact Or.inl (Or.inl z)
        · exact Or.inl (Or.inr z)
        · exact Or.inr ⟨z.1, z.2.1⟩
      · simp only [Bool.and_eq_true, Bool.not_eq_true', beq_eq_false_iff_ne, ne_eq, Bool.and_eq_false_iff]
        refine ⟨e, e1, ?_⟩
        rcases hx with z | z | z
        · refine Or.inr ?_
          rw [k2]; intro c; cases hq2 : lg L q.1 <;> rw [hq2] at z c <;> first | (cases z; done) | (cases c; done) | (simp [Value.category] at c; done) | simp [isI] at z
        · refine Or.inr ?_
          rw [k2]; intro c; cases hq2 : lg L q.1 <;> rw [hq2] at z c <;> first | (cases z; done) | (cases c; done) | (simp [Value.category] at c; done) | simp [isR] at z
        · exact Or.inl z.2.2
/-! a method's entry -/
theorem jarg_sl : ∀ (as : List Value), (∀ v ∈ as, okV v = true) → (lg_sl as).length = (jargL as).length
  | [], _ => rfl
  | v :: r, h => by
    have ih := jarg_sl r fun w hw => h w (List.mem_cons_of_mem _ hw)
    have hv := h v List.mem_cons_self
    cases v <;> first | (exact absurd hv (by decide)) | (simp [lg_sl, jargL, Value.category] at ih ⊢; exact ih) | (simp [okV, isI, isJ, isR] at hv)
theorem jarg_args : ∀ (as : List Value) (i : Nat) (pre : List Value), (∀ v ∈ as, okV v = true) → pre.length = i → ∀ (post : List Value), (∀ v ∈ post, v = jno) → ∀ q ∈ KL (pre ++ jargL as ++ post), i ≤ q.1 → q ∈ lv_args i as
  | [], i, pre, _, hp, post, hpost, q, hq, hi => by
    exfalso
    obtain ⟨k1, k2⟩ := KL_mem.mp hq
    simp only [LKn, Bool.and_eq_true, Bool.or_eq_true, decide_eq_true_eq] at k1
    have e : lg (pre ++ jargL [] ++ post) q.1 = jno := by
      have hl := k1.1
      show (pre ++ jargL [] ++ post).getD q.1 jno = jno
      rw [List.getD_eq_getElem?_getD, List.getElem?_eq_getElem hl]
      show (pre ++ [] ++ post)[q.1]'hl = jno
      apply hpost
      have : (pre ++ [] ++ post)[q.1]'hl = post[q.1 - pre.length]'(by simp [jargL] at hl; omega) := by
        simp only [List.append_nil]
        rw [List.getElem_append_right (by omega)]
      rw [this]
      exact List.getElem_mem _
    rw [e] at k1
    rcases k1.2 with (z | z) | z
    · cases z
    · cases z
    · cases z.1
  | v :: r, i, pre, hok, hp, post, hpost, q, hq, hi => by
    have hv := hok v List.mem_cons_self
    have hr : ∀ w ∈ r, okV w = true := fun w hw => hok w (List.mem_cons_of_mem _ hw)
    have at_ : ∀ (L2 : List Value), lg (pre ++ v :: L2) i = v := fun L2 => by
      show (pre ++ v :: L2).getD i jno = v
      rw [List.getD_eq_getElem?_getD, List.getElem?_append_right (by omega), hp, Nat.sub_self]
      rfl
    cases v with
    | long x =>
      have e : pre ++ jargL (.long x :: r) ++ post = (pre ++ [.long x, jhalf]) ++ jargL r ++ post := by simp [jargL]
      rw [e] at hq
      by_cases h2 : i + 2 ≤ q.1
      · show q ∈ (i, Value.long x) :: lv_args (i + 2) r
        exact List.mem_cons_of_mem _ (jarg_args r (i + 2) _ hr (by simp [hp]) post hpost q hq h2)
      · obtain ⟨k1, k2⟩ := KL_mem.mp hq
        have a0 : lg ((pre ++ [.long x, jhalf]) ++ jargL r ++ post) i = .long x := by
          have := at_ (jhalf :: (jargL r ++ post))
          simpa using this
        by_cases h1 : q.1 = i
        · have : q = (i, .long x) := Prod.ext h1 (by rw [k2, h1, a0])
          rw [this]; exact List.mem_cons_self
        · have h1' : q.1 = i + 1 := by omega
          exfalso
          have a1 : lg ((pre ++ [.long x, jhalf]) ++ jargL r ++ post) (i + 1) = jhalf := by
            show List.getD _ (i + 1) jno = _
            rw [List.getD_eq_getElem?_getD, List.append_assoc, List.append_assoc, List.getElem?_append_right (by omega), hp, show i + 1 - i = 1 by omega]
            rfl
          simp only [LKn, h1', a1, Bool.and_eq_true, Bool.or_eq_true] at k1
          rcases k1.2 with (z | z) | z
          · cases z
          · cases z
          · cases z.1
    | int x =>
      have e : pre ++ jargL (.int x :: r) ++ post = (pre ++ [.int x]) ++ jargL r ++ post := by simp [jargL]
      rw [e] at hq
      by_cases h2 : i + 1 ≤ q.1
      · exact List.mem_cons_of_mem _ (jarg_args r (i + 1) _ hr (by simp [hp]) post hpost q hq h2)
      · obtain ⟨k1, k2⟩ := KL_mem.mp hq
        have h1 : q.1 = i := by omega
        have a0 : lg ((pre ++ [.int x]) ++ jargL r ++ post) i = .int x := by
          have := at_ (jargL r ++ post)
          simpa using this
        have : q = (i, .int x) := Prod.ext h1 (by rw [k2, h1, a0])
        rw [this]; exact List.mem_cons_self
    | null =>
      have e : pre ++ jargL (.null :: r) ++ post = (pre ++ [.null]) ++ jargL r ++ post := by simp [jargL]
      rw [e] at hq
      by_cases h2 : i + 1 ≤ q.1
      · exact List.mem_cons_of_mem _ (jarg_args r (i + 1) _ hr (by simp [hp]) post hpost q hq h2)
      · obtain ⟨k1, k2⟩ := KL_mem.mp hq
        have h1 : q.1 = i := by omega
        have a0 : lg ((pre ++ [.null]) ++ jargL r ++ post) i = .null := by
          have := at_ (jargL r ++ post)
          simpa using this
        have : q = (i, .null) := Prod.ext h1 (by rw [k2, h1, a0])
        rw [this]; exact List.mem_cons_self
    | ref x =>
      have e : pre ++ jargL (.ref x :: r) ++ post = (pre ++ [.ref x]) ++ jargL r ++ post := by simp [jargL]
      rw [e] at hq
      by_cases h2 : i + 1 ≤ q.1
      · exact List.mem_cons_of_mem _ (jarg_args r (i + 1) _ hr (by simp [hp]) post hpost q hq h2)
      · obtain ⟨k1, k2⟩ := KL_mem.mp hq
        have h1 : q.1 = i := by omega
        have a0 : lg ((pre ++ [.ref x]) ++ jargL r ++ post) i = .ref x := by
          have := at_ (jargL r ++ post)
          simpa using this
        have : q = (i, .ref x) := Prod.ext h1 (by rw [k2, h1, a0])
        rw [this]; exact List.mem_cons_self
    | float x => exact absurd hv (by simp [okV, isI, isJ, isR])
    | double x => exact absurd hv (by simp [okV, isI, isJ, isR])
    | retAddr x => exact absurd hv (by simp [okV, isI, isJ, isR])
theorem LVr_entry {y : Nat} {as : List Value} (hok : ∀ v ∈ as, okV v = true) (hl : (jent y as).length = jtML y) : LVr ((lg_sl as ++ List.replicate (jtML y - (lg_sl as).length) Slot.unset).toArray) (jent y as) (jtML y) := by
  have h1 := jarg_sl as hok
  have h2 : (jargL as).length ≤ jtML y := by
    simp only [jent, List.length_append, List.length_replicate] at hl
    omega
  have h3 := lv_entry as (n := jtML y) (by omega)
  refine ⟨⟨h3.1, h3.2.1, fun q hq => h3.2.2 q ?_⟩, hl⟩
  refine jarg_args as 0 [] hok rfl (List.replicate (jtML y - (jargL as).length) jno) (fun v hv => (List.mem_replicate.mp hv).2) q ?_ (Nat.zero_le _)
  simpa [jent] using hq
