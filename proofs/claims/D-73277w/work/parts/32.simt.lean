/-! THE SIMULATION, VII: a method's run -/
/-- which return stands at pc -/
def RetAt (y pc : Nat) (st : List Value) (v : Option Value) : Prop :=
  (∃ x ty, decode (jtCode y) pc = .ok (.ireturn, 1) ∧ st = [.int x] ∧ v = some (.int x) ∧ jtRet y = some ty ∧ narrow ty (.int x) = .int x) ∨ (∃ x, decode (jtCode y) pc = .ok (.lreturn, 1) ∧ st = [.long x] ∧ v = some (.long x) ∧ jtRet y = some .long) ∨
  (∃ w rt, decode (jtCode y) pc = .ok (.areturn, 1) ∧ st = [w] ∧ v = some w ∧ jtRet y = some rt ∧ ((∃ n, rt = .object n) ∨ ∃ t, rt = .array t) ∧ (w = .null ∨ ∃ a, w = .ref a)) ∨ (decode (jtCode y) pc = .ok (.return_, 1) ∧ st = [] ∧ v = none ∧ jtRet y = none)
section SimG
variable {s0 : State} {args0 : Array Value} {E : Nat → Value} {p : Program} {l : Launch} {e : Env} {R : Room} {s : State} {m : MethodId} {args : Array Value} {below : List Frame} {meth : Method} {c : Code} {Q : State → Prop}
variable {call : Cll} {y pc pc2 len n0 m0 : Nat} {L L2 st st2 : List Value} {h h2 : AH} {H : Heap} {ls : Array Slot} {locs : List Loc}
theorem ret_i {z : Cf ⊕ (Out × AH)} (hs : exi call y pc L st h len .ireturn = some z) (hdg : decode (jtCode y) pc = .ok (.ireturn, len)) : ∃ v, z = .inr (.inl v, h) ∧ RetAt y pc st v := by
  obtain ⟨hl, q⟩ := gd_inl hs
  have hl := Nat.eq_of_beq_eq_true hl
  subst hl
  rcases st with _ | ⟨v, _ | ⟨w, r⟩⟩
  · cases q
  · cases v with
    | int x =>
      obtain ⟨g, q⟩ := gd_inl q
      have q' : (some (.inr (.inl (some (.int x)), h)) : Rs) = some z := q
      refine ⟨some (.int x), (Option.some.inj q').symm, Or.inl ?_⟩
      cases hr : jtRet y with
      | none => rw [hr] at g; cases g
      | some ty =>
        rw [hr] at g
        refine ⟨x, ty, hdg, rfl, rfl, rfl, ?_⟩
        cases ty with
        | int => rfl
        | boolean => exact bst_bool g
        | byte =>
          have g' : x.toInt8.toInt32 = x := by simpa using g
          show Value.int x.toInt8.toInt32 = _
          rw [g']
        | char =>
          have g' : (x.toUInt32 % 65536).toInt32 = x := by simpa using g
          show Value.int x.toUInt32.toUInt16.toUInt32.toInt32 = _
          rw [← lg_i2c_nf, g']
        | _ => cases g
    | _ => cases q
  · cases v <;> cases q
theorem ret_l {z : Cf ⊕ (Out × AH)} (hs : exi call y pc L st h len .lreturn = some z) (hdg : decode (jtCode y) pc = .ok (.lreturn, len)) : ∃ v, z = .inr (.inl v, h) ∧ RetAt y pc st v := by
  obtain ⟨hl, q⟩ := gd_inl hs
  have hl := Nat.eq_of_beq_eq_true hl
  subst hl
  rcases st with _ | ⟨v, _ | ⟨w, r⟩⟩
  · cases q
  · cases v with
    | long x =>
      obtain ⟨g, q⟩ := gd_inl q
      have q' : (some (.inr (.inl (some (.long x)), h)) : Rs) = some z := q
      refine ⟨some (.long x), (Option.some.inj q').symm, Or.inr (Or.inl ⟨x, hdg, rfl, rfl, ?_⟩)⟩
      cases hr : jtRet y with
      | none => rw [hr] at g; cases g
      | some ty =>
        rw [hr] at g
        cases ty with
        | long => rfl
        | _ => cases g
    | _ => cases q
  · cases v <;> cases q
theorem ret_a {z : Cf ⊕ (Out × AH)} (hs : exi call y pc L st h len .areturn = some z) (hdg : decode (jtCode y) pc = .ok (.areturn, len)) : ∃ v, z = .inr (.inl v, h) ∧ RetAt y pc st v := by
  obtain ⟨hl, q⟩ := gd_inl hs
  have hl := Nat.eq_of_beq_eq_true hl
  subst hl
  rcases st with _ | ⟨v, _ | ⟨w, r⟩⟩
  · cases q
  · obtain ⟨hv, q⟩ := rR_inl q
    obtain ⟨g, q⟩ := gd_inl q
    have q' : (some (.inr (.inl (some v), h)) : Rs) = some z := q
    cases hr : jtRet y with
    | none => rw [hr] at g; cases g
    | some ty =>
      rw [hr] at g
      refine ⟨some v, (Option.some.inj q').symm, Or.inr (Or.inr (Or.inl ⟨v, ty, hdg, rfl, rfl, hr, ?_, isR_inv hv⟩))⟩
      cases ty with
      | object n => exact Or.inl ⟨n, rfl⟩
      | array t => exact Or.inr ⟨t, rfl⟩
      | _ => cases g
  · cases q
theorem ret_v {z : Cf ⊕ (Out × AH)} (hs : exi call y pc L st h len .return_ = some z) (hdg : decode (jtCode y) pc = .ok (.return_, len)) : ∃ v, z = .inr (.inl v, h) ∧ RetAt y pc st v := by
  obtain ⟨hl, q⟩ := gd_inl hs
  have hl := Nat.eq_of_beq_eq_true hl
  subst hl
  rcases st with _ | ⟨v, r⟩
  · obtain ⟨g, q⟩ := gd_inl q
    have q' : (some (.inr (.inl none, h)) : Rs) = some z := q
    refine ⟨none, (Option.some.inj q').symm, Or.inr (Or.inr (Or.inr ⟨hdg, rfl, rfl, ?_⟩))⟩
    cases hr : jtRet y with
    | none => rfl
    | some ty => rw [hr] at g; cases g
  · cases q
/-- a return ends a method as its contract says -/
theorem sim_ret (F : JF s0 args0 E p l R s m meth c y) {v : Option Value} (hR : RetAt y pc st v) (C : CF s0 E n0 m0 y h H L st ls locs) {XC : Addr → State → State → Prop} : W p l e R s m args below meth c H locs (h.1 - n0) (h.2.1 - m0) (jx_MQ below (QcO s0 E (.inl v) h) XC args s (h.1 - n0) (h.2.1 - m0) (frO s0)) (F0 m pc ls st) := by
  have hq : ∀ t : State, t.heap = H → s.WarmedH t.vm → QcO s0 E (.inl v) h args s (.returned v) t := fun t ht _ => ⟨v, rfl, rfl, by rw [ht]; exact C.rp⟩
  refine jx_ret ?_
  rcases hR with ⟨x, ty, hd, rfl, rfl, hr, hn⟩ | ⟨x, hd, rfl, rfl, hr⟩ | ⟨w, rt, hd, rfl, rfl, hr, hrt, hw⟩ | ⟨hd, rfl, rfl, hr⟩
  · exact W.zret F.exec F.code (F.ret.trans hr) hn hq C.fr hd F.locks
  · exact W.lret F.exec F.code (F.ret.trans hr) hq C.fr hd F.locks
  · exact W.aret F.exec F.code (F.ret.trans hr) hrt hw hq C.fr hd F.locks
  · exact W.vret F.exec F.code (F.ret.trans hr) hq C.fr hd F.locks
theorem new66 {idx : Nat} {z : Cf ⊕ (Out × AH)} (h66 : (jtN (jkey y idx)).1 = 66) (hs : exi call y pc L st h len (.new idx) = some z) : len = 3 ∧ st = [] ∧ chk66 y pc = true ∧ z = .inr (.inr h.1, jpush h ((jtN (jkey y idx)).1, (jtN (jkey y idx)).2.1, jL (jtN (jkey y idx)).2.2)) := by
  obtain ⟨hl, q⟩ := gd_inl hs
  obtain ⟨hl, hc⟩ := and_inv hl
  have hl := Nat.eq_of_beq_eq_true hl
  rw [h66, show Nat.beq 66 66 = true from rfl, Bool.not_true, Bool.false_or] at hc
  unfold jnew at q
  rw [if_pos h66] at q
  cases st with
  | nil =>
    have hH : jtH y = [] := by
      unfold chk66 at hc
      obtain ⟨hc, -⟩ := and_inv hc
      exact List.isEmpty_iff.mp hc
    have q' : jthrow y (pc + 7) L (jpush h ((jtN (jkey y idx)).1, (jtN (jkey y idx)).2.1, jL (jtN (jkey y idx)).2.2)) h.1 = some z := q
    unfold jthrow at q'
    rw [hH] at q'
    exact ⟨hl, rfl, hc, (Option.some.inj q').symm⟩
  | cons v r => cases q
end SimG
