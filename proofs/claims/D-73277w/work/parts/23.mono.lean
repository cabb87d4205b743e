/-! heaps grow -/
def Grw (h h2 : AH) : Prop := h.1 ≤ h2.1 ∧ h.2.1 ≤ h2.2.1
theorem Grw.rf {h : AH} : Grw h h := ⟨Nat.le_refl _, Nat.le_refl _⟩
theorem Grw.tr {a b c : AH} (h1 : Grw a b) (h2 : Grw b c) : Grw a c := ⟨Nat.le_trans h1.1 h2.1, Nat.le_trans h1.2 h2.2⟩
theorem Grw.st {h : AH} {a : Nat} {c : Cl} : Grw h (jset h a c) := ⟨Nat.le_refl _, Nat.le_refl _⟩
theorem Grw.ps {h : AH} {c : Cl} : Grw h (jpush h c) := ⟨Nat.le_succ _, Nat.le_add_right _ _⟩
def gr (h : AH) (r : Rs) : Prop := match r with
  | none => True
  | some (.inl c) => Grw h c.2.2.2
  | some (.inr z) => Grw h z.2
section
variable {h : AH}
theorem gr_none : gr h none := trivial
theorem gr_nx {pc : Nat} {L st : List Value} {h2 : AH} (g : Grw h h2) : gr h (nx pc L st h2) := g
theorem gr_gd {b : Bool} {r : Rs} (g : gr h r) : gr h (gd b r) := by unfold gd; split <;> first | exact g | trivial
theorem gr_sA {st : List Value} {κ : Value → List Value → Rs} (g : ∀ v r, gr h (κ v r)) : gr h (sA st κ) := by unfold sA; split <;> first | exact g _ _ | trivial
theorem gr_sI {st : List Value} {κ : Int32 → List Value → Rs} (g : ∀ v r, gr h (κ v r)) : gr h (sI st κ) := by unfold sI; split <;> first | exact g _ _ | trivial
theorem gr_sJ {st : List Value} {κ : Int64 → List Value → Rs} (g : ∀ v r, gr h (κ v r)) : gr h (sJ st κ) := by unfold sJ; split <;> first | exact g _ _ | trivial
theorem gr_rI {v : Value} {κ : Int32 → Rs} (g : ∀ v, gr h (κ v)) : gr h (rI v κ) := by unfold rI; split <;> first | exact g _ | trivial
theorem gr_rJ {v : Value} {κ : Int64 → Rs} (g : ∀ v, gr h (κ v)) : gr h (rJ v κ) := by unfold rJ; split <;> first | exact g _ | trivial
theorem gr_rR {v : Value} {κ : Value → Rs} (g : ∀ v, gr h (κ v)) : gr h (rR v κ) := by
  unfold rR; split
  · exact g _
  · exact g _
  · trivial
theorem gr_sR {st : List Value} {κ : Value → List Value → Rs} (g : ∀ v r, gr h (κ v r)) : gr h (sR st κ) := by
  unfold sR; split
  · exact gr_rR fun _ => g _ _
  · trivial
theorem gr_pF {o : Value} {T : List Nat} {k tc : Nat} {v : Value} {κ : AH → Rs} (g : ∀ h2, Grw h h2 → gr h (κ h2)) : gr h (pF h o T k tc v κ) := by
  unfold pF; split
  · split
    · split <;> first | exact g _ Grw.st | trivial
    · trivial
  · trivial
theorem gr_aG {o : Value} {T : List Nat} {i : Int32} {κ : Value → Rs} (g : ∀ v, gr h (κ v)) : gr h (aG h o T i κ) := by
  unfold aG; split
  · split
    · split <;> first | exact g _ | trivial
    · trivial
  · trivial
theorem gr_aS {o : Value} {T : List Nat} {i : Int32} {v : Value} {κ : AH → Rs} (g : ∀ h2, Grw h h2 → gr h (κ h2)) : gr h (aS h o T i v κ) := by
  unfold aS; split
  · split
    · split <;> first | exact g _ Grw.st | trivial
    · trivial
  · trivial
theorem gr_aL {o : Value} {κ : Int32 → Rs} (g : ∀ v, gr h (κ v)) : gr h (aL h o κ) := by
  unfold aL; split
  · split
    · split <;> first | exact g _ | trivial
    · trivial
  · trivial
theorem gr_cK {v : Value} {T : List Nat} {κ : Rs} (g : gr h κ) : gr h (cK h v T κ) := by
  unfold cK; split
  · exact g
  · split
    · split <;> first | exact g | trivial
    · trivial
  · trivial
theorem gr_iK {v : Value} {T T2 : List Nat} {κ : Int32 → Rs} (g : ∀ x, gr h (κ x)) : gr h (iK h v T T2 κ) := by
  unfold iK; split
  · exact g _
  · split
    · split
      · exact g _
      · split <;> first | exact g _ | trivial
    · trivial
  · trivial
theorem gr_jgo {pc : Nat} {off : Int} {L st : List Value} : gr h (jgo pc off L st h) := gr_gd (gr_nx Grw.rf)
theorem gr_jbr {b : Bool} {pc : Nat} {off : Int} {L st : List Value} : gr h (jbr b pc off L st h) := by unfold jbr; split <;> first | exact gr_jgo | exact gr_nx Grw.rf
theorem gr_jthrow {y pc q : Nat} {L : List Value} {h2 : AH} (g : Grw h h2) : gr h (jthrow y pc L h2 q) := by
  unfold jthrow; split
  · exact g
  · split
    · split <;> first | exact g | trivial
    · trivial
theorem gr_aT {q : Nat} {κ : Rs} (g : gr h κ) : gr h (aT h q κ) := by
  unfold aT; split
  · split <;> first | exact g | trivial
  · trivial
theorem gr_jback {y pc q rc : Nat} {L rest : List Value} {r : Rz} (g : ∀ z, r = some z → Grw h z.2) : gr h (jback y pc q L rest rc r) := by
  unfold jback; split
  · exact gr_gd (gr_nx (g _ rfl))
  · exact gr_jthrow (g _ rfl)
  · trivial
theorem gr_jcall {call : Cll} (hc : ∀ y as h z, call y as h = some z → Grw h z.2) {y pc q : Nat} {L st : List Value} {r : Nat × Nat × Nat × Nat} {ok : Bool} : gr h (jcall call y pc q L st h r ok) := by
  unfold jcall
  refine gr_gd ?_
  split
  · exact gr_jback fun z hz => hc _ _ _ _ hz
  · trivial
theorem gr_jnew {y pc : Nat} {L st : List Value} {r : Nat × Nat × List Value} : gr h (jnew y pc L st h r) := by
  unfold jnew; split
  · split <;> first | exact gr_jthrow Grw.ps | trivial
  · split <;> first | trivial | exact gr_nx Grw.ps
theorem gr_bif {b : Bool} {x y : Rs} (hx : gr h x) (hy : gr h y) : gr h (bif b then x else y) := by cases b <;> first | exact hy | exact hx
theorem gr_ret {z : Out × AH} (g : Grw h z.2) : gr h (some (.inr z)) := g
theorem gr_exi {call : Cll} (hc : ∀ y as h z, call y as h = some z → Grw h z.2) {y pc len : Nat} {L st : List Value} (i : Instr) : gr h (exi call y pc L st h len i) := by
  cases i <;> simp only [exi] <;> repeat' first
    | exact gr_none
    | exact gr_jgo
    | exact gr_jbr
    | exact gr_jcall hc
    | exact gr_jnew
    | exact gr_jthrow Grw.rf
    | exact gr_nx Grw.rf
    | exact gr_nx Grw.ps
    | exact gr_ret Grw.rf
    | exact gr_nx (by assumption)
    | refine gr_gd ?_
    | refine gr_sI fun _ _ => ?_
    | refine gr_sJ fun _ _ => ?_
    | refine gr_sA fun _ _ => ?_
    | refine gr_sR fun _ _ => ?_
    | refine gr_rI fun _ => ?_
    | refine gr_rJ fun _ => ?_
    | refine gr_rR fun _ => ?_
    | refine gr_pF fun _ _ => ?_
    | refine gr_aG fun _ => ?_
    | refine gr_aS fun _ _ => ?_
    | refine gr_aL fun _ => ?_
    | refine gr_cK ?_
    | refine gr_iK fun _ => ?_
    | refine gr_aT ?_
    | refine gr_bif ?_ ?_
    | split
end
theorem jrun_gr {call : Cll} (hc : ∀ y as h z, call y as h = some z → Grw h z.2) {y : Nat} : ∀ (n : Nat) (c : Cf) (z : Out × AH), jrun call y n c = some z → Grw c.2.2.2 z.2 := by
  intro n
  induction n with
  | zero => intro c z h; cases h
  | succ n ih =>
    intro c z h
    rw [jrun] at h
    have hg : gr c.2.2.2 (stp call y c) := by
      unfold stp; split
      · exact gr_exi hc _
      · trivial
    cases hs : stp call y c with
    | none => rw [hs] at h; cases h
    | some q =>
      rw [hs] at h hg
      cases q with
      | inl c' => exact Grw.tr hg (ih c' z h)
      | inr r => cases h; exact hg
theorem jprim_gr {y : Nat} {as : List Value} {h : AH} {z : Out × AH} (e : jprim y as h = some z) : Grw h z.2 := by
  unfold jprim at e
  split at e
  · cases e; exact Grw.rf
  · split at e
    · split at e
      · cases e; exact Grw.st
      · cases e
    · cases e
  · split at e
    · split at e
      · cases e; exact Grw.rf
      · cases e
    · cases e
  · split at e
    · split at e
      · cases e; exact Grw.rf
      · cases e
    · cases e
  · cases e
theorem M_gr : ∀ (d y : Nat) (as : List Value) (h : AH) (z : Out × AH), M d y as h = some z → Grw h z.2 := by
  intro d
  induction d with
  | zero => intro y as h z e; cases e
  | succ d ih =>
    intro y as h z e
    rw [M] at e
    split at e
    · exact jprim_gr e
    · split at e
      · obtain ⟨n, hn⟩ := jlim_ex e
        exact jrun_gr ih n _ z hn
      · cases e
