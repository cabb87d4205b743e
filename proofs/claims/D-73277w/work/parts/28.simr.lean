/-! THE SIMULATION, III: calls and ends -/
theorem MF_code {args : Array Value} {s : State} {y : MethodName} {b : ByteArray} {mL : Nat} {r : Option FieldType} (h : (Cond.code y b mL r).before args s = true) : ∃ (mk : MethodId) (methM : Method), s.methodNamed? y = some mk ∧ s.vm.method? mk = some methM ∧ parseMethodDescriptor y.desc = some methM.sig := by
  obtain ⟨mk, hn⟩ := Cond.code_named h
  obtain ⟨methM, cM, hm, -, -, -, -, -, -, hsig⟩ := Cond.code_spec hn h
  exact ⟨mk, methM, hn, hm, hsig⟩
theorem MF_codeW {args : Array Value} {s : State} {y : MethodName} {b : ByteArray} {mL : Nat} {r : Option FieldType} {hh : List (Nat × Nat × Nat × Nat)} (h : (Cond.codeWith y b mL r hh).before args s = true) : ∃ (mk : MethodId) (methM : Method), s.methodNamed? y = some mk ∧ s.vm.method? mk = some methM ∧ parseMethodDescriptor y.desc = some methM.sig := by
  obtain ⟨mk, methM, cM, hn, hm, -, -, -, -, -, -, hsig⟩ := Cond.codeWith_spec h
  exact ⟨mk, methM, hn, hm, hsig⟩
/-- what a call comes to -/
def CallE (p : Program) (l : Launch) (e : Env) (R : Room) (s : State) (m : MethodId) (args : Array Value) (below : List Frame) (meth : Method) (c : Code) (T : State) (locs : List Loc) (cells slots : Nat) (g : JFrame) (len : Nat) (rest : List Value) (a : Array Value) (Post : Pt → Array Value → Option Value → Pt → Prop) (PostX : Pt → Array Value → Addr → Pt → Prop) : Prop :=
  (∃ (v : Option Value) (vm₁ : Vm) (B : Pt), s.WarmedH vm₁ ∧ Stand p l e R s m args below meth c B.U B.locs B.cells B.slots ∧ Post ⟨T.setVm vm₁, locs, cells, slots⟩ a v B ∧
      ∀ target, Steps p.tables e below (B.U.setTop { g with pc := g.pc + len, stack := v.toList ++ rest }) target → Steps p.tables e below (T.setTop g) target) ∨
    (∃ (q : Addr) (vm₁ : Vm) (B : Pt), s.WarmedH vm₁ ∧ Stand p l e R s m args below meth c B.U B.locs B.cells B.slots ∧ PostX ⟨T.setVm vm₁, locs, cells, slots⟩ a q B ∧
      Steps p.tables e below (T.setTop g) ((B.U.setTop { g with stack := rest }).pushFrame (.throwing q)))
section
variable {p : Program} {l : Launch} {e : Env} {R : Room} {s : State} {m : MethodId} {args : Array Value} {below : List Frame} {meth : Method} {c : Code} {T : State} {locs : List Loc} {cells slots : Nat}
/-! the rows: after the kit's vx_callV, vx_callVN, vx_callVU, vx_callS, vx_callSN, vx_callSU, vx_callIF and the library's interfaceBackD -/
theorem jc_V (X : Stand p l e R s m args below meth c T locs cells slots) (hexec : p.tables.exec = Jvm.exec) {own : String} {index : Nat} {y : MethodName}
    (hown : s.vm.findClass own = some m.cls) (hlink : (Cond.methodLink own index y).before args s = true ∨ ∃ host, (Cond.methodLinkNest own index y host).before args s = true) (hinst : (Cond.instanceMethod y).before args s = true) (hini : (Cond.initialized y.cls).before args s = true)
    (hF : ∃ (mk : MethodId) (methM : Method), s.methodNamed? y = some mk ∧ s.vm.method? mk = some methM ∧ parseMethodDescriptor y.desc = some methM.sig) (hy : y.cls ≠ "java/lang/invoke/MethodHandle" ∧ y.cls ≠ "java/lang/invoke/VarHandle")
    {W9 : Nat} {Pre : Pt → Array Value → Prop} {Post : Pt → Array Value → Option Value → Pt → Prop} {PostX : Pt → Array Value → Addr → Pt → Prop} (hK : vx_Back l R p e below s args y 3 W9 Pre Post PostX)
    {b : Addr} {cellB : Cell} (hcell : T.heap[b]? = some cellB) (hobj : cellB.vm.isStatics = false) (hsel : (∃ C, (Cond.selects C y y).before args s = true ∧ s.vm.findClass C = some cellB.cls) ∨ (s.PrivateAt y ∧ ∃ ow nm ds, (Cond.sameMethod y.cls ow nm ds).before args s = true))
    {g : JFrame} (hg : g.method = m) (hsize : g.locals.size = c.maxLocals) {argsL rest : List Value} (hlen : ∀ sig, parseMethodDescriptor y.desc = some sig → argsL.length = sig.parameters.length)
    (hstack : g.stack = argsL.reverse ++ .ref b :: rest) (hW : 2 * g.monitorRoom + (rest.map fun v => v.category).sum ≤ W9) (hdg : decode c.code g.pc = .ok (.invokevirtual index, 3))
    (hpre : ∀ vm₁, s.WarmedH vm₁ → Pre ⟨T.setVm vm₁, locs, cells, slots⟩ (Value.ref b :: argsL).toArray) : CallE p l e R s m args below meth c T locs cells slots g 3 rest (Value.ref b :: argsL).toArray Post PostX := by
  obtain ⟨mk, methM, hnamed, hmethM, hstM, habM⟩ := Cond.instanceMethod_spec hinst
  obtain ⟨mk', methM', hn', hm', hsigM⟩ := hF
  cases hnamed.symm.trans hn'
  cases hmethM.symm.trans hm'
  have hboth : (∃ kP, s.vm.classes[mk.cls]? = some kP ∧ kP.isInterface = false) ∧ selectMethod e.platform s.vm cellB.cls mk = .method mk := by
    rcases hsel with ⟨C, hsel, hcls⟩ | ⟨hpriv, ow, nm, ds, hsm⟩
    · obtain ⟨c2, r2, m2, q1, q2, q3, q4, kP, hkP, hkPi⟩ := Cond.selects_spec hsel
      cases hcls.symm.trans q1
      cases (State.methodFound?_of_named hnamed hy).symm.trans q2
      cases hnamed.symm.trans q3
      exact ⟨⟨kP, hkP, hkPi⟩, by rw [Launch.admits_selectMethod X.admits]; exact q4⟩
    · obtain ⟨cn, ck, r1, hcn, hck, hni, -, -⟩ := Cond.sameMethod_found hsm
      cases hcn.symm.trans (findClass_of_methodNamed hnamed)
      exact ⟨⟨ck, hck, hni⟩, selectMethod_private hmethM (hpriv mk methM hnamed hmethM)⟩
  obtain ⟨⟨kP, hkP, hkPi⟩, hselP⟩ := hboth
  rcases hlink with hlink | ⟨host, hlink⟩
  · obtain ⟨vm₁, X₁, hstep₁⟩ := X.invokevirtual hexec hown hlink hnamed hmethM hstM hkP hkPi hy (a := b) (cell := cellB) hcell
      (fun z h => by rw [h] at hobj; cases hobj) hselP hmethM habM hkP hkPi (g := g) hg (argsL := argsL) (rest := rest) (hlen _ hsigM) hstack hdg
    rcases hK m meth c ⟨T.setVm vm₁, locs, cells, slots⟩ { g with stack := rest } (.invokevirtual index) mk (Value.ref b :: argsL).toArray X₁ hg hsize hdg hW (X₁.named hnamed) (hpre vm₁ X₁.warmed) with ⟨v, B, X', hpost, hsteps⟩ | ⟨q, B, X', hpost, hsteps⟩
    · exact Or.inl ⟨v, vm₁, B, X₁.warmed, X', hpost, fun target h => hstep₁ _ fun acts => by rw [doInvoke_state]; exact hsteps.trans h⟩
    · exact Or.inr ⟨q, vm₁, B, X₁.warmed, X', hpost, hstep₁ _ fun acts => by rw [doInvoke_state]; exact hsteps⟩
  · obtain ⟨vm₁, X₁, hstep₁⟩ := X.invokevirtualNest hexec hown hlink hnamed hmethM hstM hkP hkPi hy (a := b) (cell := cellB) hcell
      (fun z h => by rw [h] at hobj; cases hobj) hselP hmethM habM hkP hkPi (g := g) hg (argsL := argsL) (rest := rest) (hlen _ hsigM) hstack hdg
    rcases hK m meth c ⟨T.setVm vm₁, locs, cells, slots⟩ { g with stack := rest } (.invokevirtual index) mk (Value.ref b :: argsL).toArray X₁ hg hsize hdg hW (X₁.named hnamed) (hpre vm₁ X₁.warmed) with ⟨v, B, X', hpost, hsteps⟩ | ⟨q, B, X', hpost, hsteps⟩
    · exact Or.inl ⟨v, vm₁, B, X₁.warmed, X', hpost, fun target h => hstep₁ _ fun acts => by rw [doInvoke_state]; exact hsteps.trans h⟩
    · exact Or.inr ⟨q, vm₁, B, X₁.warmed, X', hpost, hstep₁ _ fun acts => by rw [doInvoke_state]; exact hsteps⟩
theorem jc_VU (X : Stand p l e R s m args below meth c T locs cells slots) (hexec : p.tables.exec = Jvm.exec) {own C owner : String} {index : Nat} {x y : MethodName}
    (hown : s.vm.findClass own = some m.cls) (hlink : (Cond.methodLink own index x).before args s = true) (hsame : (Cond.sameMethod x.cls owner x.name x.desc).before args s = true)
    (hd0 : va_Decl s ⟨owner, x.name, x.desc⟩) (howner : owner ≠ "java/lang/invoke/MethodHandle" ∧ owner ≠ "java/lang/invoke/VarHandle")
    (hsel : (Cond.selects C x y).before args s = true) (hinst : (Cond.instanceMethod y).before args s = true)
    {W9 : Nat} {Pre : Pt → Array Value → Prop} {Post : Pt → Array Value → Option Value → Pt → Prop} {PostX : Pt → Array Value → Addr → Pt → Prop} (hK : vx_Back l R p e below s args y 3 W9 Pre Post PostX)
    {b : Addr} {cellB : Cell} (hcell : T.heap[b]? = some cellB) (hobj : cellB.vm.isStatics = false) (hcls : s.vm.findClass C = some cellB.cls)
    {g : JFrame} (hg : g.method = m) (hsize : g.locals.size = c.maxLocals) {argsL rest : List Value} (hlen : ∀ sig, parseMethodDescriptor x.desc = some sig → argsL.length = sig.parameters.length)
    (hstack : g.stack = argsL.reverse ++ .ref b :: rest) (hW : 2 * g.monitorRoom + (rest.map fun v => v.category).sum ≤ W9) (hdg : decode c.code g.pc = .ok (.invokevirtual index, 3))
    (hpre : ∀ vm₁, s.WarmedH vm₁ → Pre ⟨T.setVm vm₁, locs, cells, slots⟩ (Value.ref b :: argsL).toArray) : CallE p l e R s m args below meth c T locs cells slots g 3 rest (Value.ref b :: argsL).toArray Post PostX := by
  obtain ⟨r0, r, hn, hrm, hstR, hsigR⟩ := hd0
  obtain ⟨cn, ck, r1, hcn, hck, hni, hf, hn1⟩ := Cond.sameMethod_found hsame
  cases hn.symm.trans hn1
  obtain ⟨mk, methM, hnamed, hmethM, -, habM⟩ := Cond.instanceMethod_spec hinst
  obtain ⟨c2, r2, m2, q1, q2, q3, q4, kP, hkP, hkPi⟩ := Cond.selects_spec hsel
  cases hcls.symm.trans q1
  cases hf.symm.trans q2
  cases hnamed.symm.trans q3
  have hselP : selectMethod e.platform s.vm cellB.cls r0 = .method mk := by rw [Launch.admits_selectMethod X.admits]; exact q4
  obtain ⟨vm₁, X₁, hstep₁⟩ := X.invokevirtualUp hexec hown hlink hsame howner hn hrm hstR (a := b) (cell := cellB) hcell
    (fun z h => by rw [h] at hobj; cases hobj) hselP hmethM habM hkP hkPi (g := g) hg (argsL := argsL) (rest := rest) (hlen _ hsigR) hstack hdg
  rcases hK m meth c ⟨T.setVm vm₁, locs, cells, slots⟩ { g with stack := rest } (.invokevirtual index) mk (Value.ref b :: argsL).toArray X₁ hg hsize hdg hW (X₁.named hnamed) (hpre vm₁ X₁.warmed) with ⟨v, B, X', hpost, hsteps⟩ | ⟨q, B, X', hpost, hsteps⟩
  · exact Or.inl ⟨v, vm₁, B, X₁.warmed, X', hpost, fun target h => hstep₁ _ fun acts => by rw [doInvoke_state]; exact hsteps.trans h⟩
  · exact Or.inr ⟨q, vm₁, B, X₁.warmed, X', hpost, hstep₁ _ fun acts => by rw [doInvoke_state]; exact hsteps⟩
theorem jc_S (X : Stand p l e R s m args below meth c T locs cells slots) (hexec : p.tables.exec = Jvm.exec) {own : String} {index : Nat} {y : MethodName}
    (hown : s.vm.findClass own = some m.cls) (hlink : (Cond.methodLink own index y).before args s = true ∨ ∃ host, (Cond.methodLinkNest own index y host).before args s = true) (hstat : (Cond.static y).before args s = true) (hinit : (Cond.initialized y.cls).before args s = true)
    (hF : ∃ (mk : MethodId) (methM : Method), s.methodNamed? y = some mk ∧ s.vm.method? mk = some methM ∧ parseMethodDescriptor y.desc = some methM.sig) (hy : y.cls ≠ "java/lang/invoke/MethodHandle" ∧ y.cls ≠ "java/lang/invoke/VarHandle")
    {W9 : Nat} {Pre : Pt → Array Value → Prop} {Post : Pt → Array Value → Option Value → Pt → Prop} {PostX : Pt → Array Value → Addr → Pt → Prop} (hK : vx_Back l R p e below s args y 3 W9 Pre Post PostX)
    {g : JFrame} (hg : g.method = m) (hsize : g.locals.size = c.maxLocals) {argsL rest : List Value} (hlen : ∀ sig, parseMethodDescriptor y.desc = some sig → argsL.length = sig.parameters.length)
    (hstack : g.stack = argsL.reverse ++ rest) (hW : 2 * g.monitorRoom + (rest.map fun v => v.category).sum ≤ W9) (hdg : decode c.code g.pc = .ok (.invokestatic index, 3))
    (hpre : ∀ vm₁, s.WarmedH vm₁ → Pre ⟨T.setVm vm₁, locs, cells, slots⟩ argsL.toArray) : CallE p l e R s m args below meth c T locs cells slots g 3 rest argsL.toArray Post PostX := by
  obtain ⟨mk, methM, hnamed, hmethM, hsigM⟩ := hF
  have hstatic : methM.isStatic = true := Cond.static_spec hnamed hmethM hstat
  obtain ⟨kP, hkP, -⟩ := className_of_methodNamed hnamed
  have hinitP : kP.init = .initialized := Cond.initialized_spec (findClass_of_methodNamed hnamed) hkP hinit
  rcases hlink with hlink | ⟨host, hlink⟩
  · obtain ⟨vm₁, X₁, hstep₁⟩ := X.invokestatic hexec hown hlink hnamed hmethM hstatic hkP hinitP hy (g := g) hg (argsL := argsL) (rest := rest) (hlen _ hsigM) hstack hdg
    rcases hK m meth c ⟨T.setVm vm₁, locs, cells, slots⟩ { g with stack := rest } (.invokestatic index) mk argsL.toArray X₁ hg hsize hdg hW (X₁.named hnamed) (hpre vm₁ X₁.warmed) with ⟨v, B, X', hpost, hsteps⟩ | ⟨q, B, X', hpost, hsteps⟩
    · exact Or.inl ⟨v, vm₁, B, X₁.warmed, X', hpost, fun target h => hstep₁ _ fun acts => by rw [doInvoke_state]; exact hsteps.trans h⟩
    · exact Or.inr ⟨q, vm₁, B, X₁.warmed, X', hpost, hstep₁ _ fun acts => by rw [doInvoke_state]; exact hsteps⟩
  · obtain ⟨vm₁, X₁, hstep₁⟩ := X.invokestaticNest hexec hown hlink hnamed hmethM hstatic hkP hinitP hy (g := g) hg (argsL := argsL) (rest := rest) (hlen _ hsigM) hstack hdg
    rcases hK m meth c ⟨T.setVm vm₁, locs, cells, slots⟩ { g with stack := rest } (.invokestatic index) mk argsL.toArray X₁ hg hsize hdg hW (X₁.named hnamed) (hpre vm₁ X₁.warmed) with ⟨v, B, X', hpost, hsteps⟩ | ⟨q, B, X', hpost, hsteps⟩
    · exact Or.inl ⟨v, vm₁, B, X₁.warmed, X', hpost, fun target h => hstep₁ _ fun acts => by rw [doInvoke_state]; exact hsteps.trans h⟩
    · exact Or.inr ⟨q, vm₁, B, X₁.warmed, X', hpost, hstep₁ _ fun acts => by rw [doInvoke_state]; exact hsteps⟩
theorem jc_I (X : Stand p l e R s m args below meth c T locs cells slots) (hexec : p.tables.exec = Jvm.exec) {own : String} {index : Nat} {y : MethodName} {bytes : ByteArray} {maxL : Nat}
    (hown : s.vm.findClass own = some m.cls) (hy1 : y.name = "<init>") (hlink : (Cond.methodLink own index y).before args s = true ∨ ∃ host, (Cond.methodLinkNest own index y host).before args s = true) (hinst : (Cond.instanceMethod y).before args s = true)
    (hcode : (Cond.code y bytes maxL none).before args s = true) (hy : y.cls ≠ "java/lang/invoke/MethodHandle" ∧ y.cls ≠ "java/lang/invoke/VarHandle")
    {W9 : Nat} {Pre : Pt → Array Value → Prop} {Post : Pt → Array Value → Option Value → Pt → Prop} {PostX : Pt → Array Value → Addr → Pt → Prop} (hK : vx_Back l R p e below s args y 3 W9 Pre Post PostX)
    {g : JFrame} (hg : g.method = m) (hsize : g.locals.size = c.maxLocals) {a : Addr} {argsL rest : List Value} (hlen : ∀ sig, parseMethodDescriptor y.desc = some sig → argsL.length = sig.parameters.length)
    (hstack : g.stack = argsL.reverse ++ .ref a :: rest) (hW : 2 * g.monitorRoom + (rest.map fun v => v.category).sum ≤ W9) (hdg : decode c.code g.pc = .ok (.invokespecial index, 3))
    (hpre : ∀ vm₁, s.WarmedH vm₁ → Pre ⟨T.setVm vm₁, locs, cells, slots⟩ (Value.ref a :: argsL).toArray) : CallE p l e R s m args below meth c T locs cells slots g 3 rest (Value.ref a :: argsL).toArray Post PostX := by
  rcases hlink with hlink | ⟨host, hlink⟩
  · exact vx_callI X hexec hown hy1 hlink hinst hcode hy hK hg hsize hlen hstack hW hdg hpre
  · exact vx_callIN X hexec hown hy1 hlink hinst hcode hy hK hg hsize hlen hstack hW hdg hpre
theorem jc_SU (X : Stand p l e R s m args below meth c T locs cells slots) (hexec : p.tables.exec = Jvm.exec) {own : String} {index : Nat} {y : MethodName}
    (hown : s.vm.findClass own = some m.cls) (hlink : (Cond.methodLink own index y).before args s = true) (hsame : (Cond.sameMethod y.cls y.cls y.name y.desc).before args s = true) (hsup : (Cond.superclass own y.cls).before args s = true)
    (hinst : (Cond.instanceMethod y).before args s = true) (hF : ∃ (mk : MethodId) (methM : Method), s.methodNamed? y = some mk ∧ s.vm.method? mk = some methM ∧ parseMethodDescriptor y.desc = some methM.sig) (hno : y.name ≠ "<init>")
    {W9 : Nat} {Pre : Pt → Array Value → Prop} {Post : Pt → Array Value → Option Value → Pt → Prop} {PostX : Pt → Array Value → Addr → Pt → Prop} (hK : vx_Back l R p e below s args y 3 W9 Pre Post PostX)
    {b : Addr} {cellB : Cell} {kB : Class} (hcell : T.heap[b]? = some cellB) (hobj : cellB.vm.isStatics = false) (hkB : s.vm.classes[cellB.cls]? = some kB)
    {g : JFrame} (hg : g.method = m) (hsize : g.locals.size = c.maxLocals) {argsL rest : List Value} (hlen : ∀ sig, parseMethodDescriptor y.desc = some sig → argsL.length = sig.parameters.length)
    (hstack : g.stack = argsL.reverse ++ .ref b :: rest) (hW : 2 * g.monitorRoom + (rest.map fun v => v.category).sum ≤ W9) (hdg : decode c.code g.pc = .ok (.invokespecial index, 3))
    (hpre : ∀ vm₁, s.WarmedH vm₁ → Pre ⟨T.setVm vm₁, locs, cells, slots⟩ (Value.ref b :: argsL).toArray) : CallE p l e R s m args below meth c T locs cells slots g 3 rest (Value.ref b :: argsL).toArray Post PostX := by
  obtain ⟨mk, methM, hnamed, hmethM, hstM, habM⟩ := Cond.instanceMethod_spec hinst
  obtain ⟨mk', methM', hn', hm', hsigM⟩ := hF
  cases hnamed.symm.trans hn'
  cases hmethM.symm.trans hm'
  obtain ⟨ps, dk, kp, hps, hdk, hkp, hsuper, -, -, hnid⟩ := Cond.superclass_spec hown hsup
  have hn : s.methodNamed? ⟨y.cls, y.name, y.desc⟩ = some mk := hnamed
  have hpm : ps = mk.cls := Option.some.inj (hps.symm.trans (findClass_of_methodNamed hnamed))
  have hsub : s.vm.isSubclass ps mk.cls = true := by rw [hpm]; simp [Vm.isSubclass, Vm.isSubclassAux]
  obtain ⟨vm₁, X₁, hstep₁⟩ := X.invokespecialUp hexec hown hlink hsame hn hmethM hstM habM hno hdk hnid hps hsuper hsub (a := b) (cell := cellB) hcell
    (fun z h => by rw [h] at hobj; cases hobj) hkB (g := g) hg (argsL := argsL) (rest := rest) (hlen _ hsigM) hstack hdg
  rcases hK m meth c ⟨T.setVm vm₁, locs, cells, slots⟩ { g with stack := rest } (.invokespecial index) mk (Value.ref b :: argsL).toArray X₁ hg hsize hdg hW (X₁.named hnamed) (hpre vm₁ X₁.warmed) with ⟨v, B, X', hpost, hsteps⟩ | ⟨q, B, X', hpost, hsteps⟩
  · exact Or.inl ⟨v, vm₁, B, X₁.warmed, X', hpost, fun target h => hstep₁ _ (by rw [doInvoke_state]; exact hsteps.trans h)⟩
  · exact Or.inr ⟨q, vm₁, B, X₁.warmed, X', hpost, hstep₁ _ (by rw [doInvoke_state]; exact hsteps)⟩
theorem jc_IF (X : Stand p l e R s m args below meth c T locs cells slots) (hexec : p.tables.exec = Jvm.exec) {own C : String} {index count : Nat} {x y : MethodName}
    (hown : s.vm.findClass own = some m.cls) (hlink : (Cond.methodLink own index x).before args s = true) (hdecl : (Cond.declares x).before args s = true) (hface : (Cond.interfaceMethod x.cls x.cls x.name x.desc).before args s = true)
    (hsel : ((Cond.selects C x y).before args s = true ∧ (Cond.unhidden C x.name x.desc).before args s = true) ∨ (Cond.landsInDefault C x y).before args s = true) (hinst : (Cond.instanceMethod y).before args s = true) (hpub : (Cond.publicMethod y).before args s = true)
    (hcast : (Cond.castable C x.cls).before args s = true) (hx : x.cls ≠ "java/lang/invoke/MethodHandle" ∧ x.cls ≠ "java/lang/invoke/VarHandle")
    {W9 : Nat} {Pre : Pt → Array Value → Prop} {Post : Pt → Array Value → Option Value → Pt → Prop} {PostX : Pt → Array Value → Addr → Pt → Prop} (hK : vx_Back l R p e below s args y 5 W9 Pre Post PostX)
    {b : Addr} {cellB : Cell} {kB : Class} (hcell : T.heap[b]? = some cellB) (hobj : cellB.vm.isStatics = false) (hcls : s.vm.findClass C = some cellB.cls) (hkB : s.vm.classes[cellB.cls]? = some kB)
    {g : JFrame} (hg : g.method = m) (hsize : g.locals.size = c.maxLocals) {argsL rest : List Value} (hlen : ∀ sig, parseMethodDescriptor x.desc = some sig → argsL.length = sig.parameters.length)
    (hstack : g.stack = argsL.reverse ++ .ref b :: rest) (hW : 2 * g.monitorRoom + (rest.map fun v => v.category).sum ≤ W9) (hdg : decode c.code g.pc = .ok (.invokeinterface index count, 5))
    (hpre : ∀ vm₁, s.WarmedH vm₁ → Pre ⟨T.setVm vm₁, locs, cells, slots⟩ (Value.ref b :: argsL).toArray) : CallE p l e R s m args below meth c T locs cells slots g 5 rest (Value.ref b :: argsL).toArray Post PostX := by
  obtain ⟨r0, r, hn, hrm, hstR, hsigR⟩ := Cond.declares_spec hdecl
  obtain ⟨cL, kL, r1, hcL, hkL, hiL, hfoundL, hn1⟩ := Cond.interfaceMethod_spec hface
  cases hn.symm.trans hn1
  have hr0cls : r0.cls = cL := Option.some.inj ((findClass_of_methodNamed hn).symm.trans hcL)
  obtain ⟨hnameR, hdescR⟩ := name_of_methodNamed hn hrm
  obtain ⟨mk, methM, hnamed, hmethM, -, habM⟩ := Cond.instanceMethod_spec hinst
  have hboth : selectMethod e.platform s.vm cellB.cls r0 = .method mk ∧ ((cellB.cls :: s.vm.superclasses cellB.cls).any fun k => (declaredIn s.vm r.name r.desc k).any fun (_, z) => z.isPrivate || z.isStatic) = false := by
    rcases hsel with ⟨hsel, hunh⟩ | hsel
    · obtain ⟨c2, r2, m2, q1, q2, q3, q4, -⟩ := Cond.selects_spec hsel
      cases hcls.symm.trans q1
      cases hfoundL.symm.trans q2
      cases hnamed.symm.trans q3
      exact ⟨by rw [Launch.admits_selectMethod X.admits]; exact q4, by rw [hnameR, hdescR]; exact Cond.unhidden_spec hcls hunh⟩
    · obtain ⟨c2, r2, m2, rm, q1, q2, q3, q5, q4, -, q6, -⟩ := Cond.landsInDefault_spec hsel
      cases hcls.symm.trans q1
      cases hfoundL.symm.trans q2
      cases hnamed.symm.trans q3
      cases hrm.symm.trans q5
      exact ⟨by rw [Launch.admits_selectMethod X.admits]; exact q4, q6⟩
  obtain ⟨hselP, hway⟩ := hboth
  have hpubM : hasFlag methM.accessFlags Acc.public_ = true := Cond.publicMethod_spec hnamed hmethM hpub
  obtain ⟨c3, t3, w1, w2, w3⟩ := Cond.castable_spec hcast
  cases hcls.symm.trans w1
  cases hcL.symm.trans w2
  obtain ⟨vm₁, X₁, hstep₁⟩ := X.invokeinterface hexec hown hlink hn hrm hstR (by rw [hr0cls]; exact hkL) hiL hx (a := b) (cell := cellB) (kcell := kB) hcell
    (fun z h => by rw [h] at hobj; cases hobj) hkB (by rw [hr0cls]; exact w3) hselP hmethM hway hpubM habM (g := g) hg (argsL := argsL) (rest := rest) (hlen _ hsigR) hstack hdg
  rcases hK m meth c ⟨T.setVm vm₁, locs, cells, slots⟩ { g with stack := rest } (.invokeinterface index count) mk (Value.ref b :: argsL).toArray X₁ hg hsize hdg hW (X₁.named hnamed) (hpre vm₁ X₁.warmed) with ⟨v, B, X', hpost, hsteps⟩ | ⟨q, B, X', hpost, hsteps⟩
  · exact Or.inl ⟨v, vm₁, B, X₁.warmed, X', hpost, fun target h => hstep₁ _ fun acts => by rw [doInvoke_state]; exact hsteps.trans h⟩
  · exact Or.inr ⟨q, vm₁, B, X₁.warmed, X', hpost, hstep₁ _ fun acts => by rw [doInvoke_state]; exact hsteps⟩
end
/-! contracts -/
def PcO (s0 : State) (E : Nat → Value) (as : List Value) (h : AH) : Array Value → State → Prop := fun a U => a = as.toArray ∧ RpH s0 E h U.heap ∧ s0.WarmedH U.vm
def QcO (s0 : State) (E : Nat → Value) (o : Out) (h2 : AH) : Array Value → State → Outcome → State → Prop := fun _ _ oc t => ∃ v, o = .inl v ∧ oc = .returned v ∧ RpH s0 E h2 t.heap
def XCO (s0 : State) (E : Nat → Value) (o : Out) (h2 : AH) : Addr → State → State → Prop := fun q _ t => o = .inr q ∧ RpH s0 E h2 t.heap
def frO (s0 : State) : Addr → Prop := fun q => s0.heap.size ≤ q
theorem blindO {s0 : State} {E : Nat → Value} {as : List Value} {h : AH} : FrameBlind (PcO s0 E as h) := fun _ _ _ _ hP => hP
def WordOf (y : Nat) (w : Cond) : Prop := (jtHR y = [] ∧ w = Cond.code (jtY y) (jtCode y) (jtML y) (jtRet y)) ∨ w = Cond.codeWith (jtY y) (jtCode y) (jtML y) (jtRet y) (jtHR y)
abbrev rmO (d mc ms : Nat) : Room := { frames := d + 10, cells := mc, slots := ms, locals := 120 * (d + 10) }
/-- every method that JVM-lite runs to its end at depth d, the machine does -/
def SimOK (s0 : State) (E : Nat → Value) (l : Launch) (d : Nat) : Prop :=
  ∀ (y : Nat) (as : List Value) (h : AH) (o : Out) (h2 : AH) (w : Cond), M d y as h = some (o, h2) → y < 90000 → (∀ v ∈ as, okV v = true) → WordOf y w → w ∈ lw_all → plainFor (jtY y) = true →
    jx_Met l (jtY y) (w :: lw_all) (rmO d (h2.1 - h.1) (h2.2.1 - h.2.1)) (PcO s0 E as h) (QcO s0 E o h2) (XCO s0 E o h2) (h2.1 - h.1) (h2.2.1 - h.2.1) (frO s0)
theorem word_of {y : Nat} (h : GdW y) : ∃ w, WordOf y w ∧ w ∈ lw_all ∧ plainFor (jtY y) = true := by
  rcases h with ⟨-, hp, ⟨h1, h2⟩ | h2⟩
  · exact ⟨_, Or.inl ⟨h1, rfl⟩, h2, hp⟩
  · exact ⟨_, Or.inr rfl, h2, hp⟩
section SimC
variable {s0 : State} {args0 : Array Value} {E : Nat → Value} {p : Program} {l : Launch} {e : Env} {R : Room} {s : State} {m : MethodId} {args : Array Value} {below : List Frame} {meth : Method} {c : Code} {Q : State → Prop}
variable {y pc len n0 m0 : Nat} {L st : List Value} {h : AH} {H : Heap} {ls : Array Slot} {locs : List Loc}
theorem loc_le {ml d rl : Nat} (h1 : ml ≤ 89) (h2 : 120 * (d + 11) ≤ rl) : 20 + (ml + 11) + 120 * (d + 10) ≤ rl := by
  have e : 120 * (d + 11) = 120 * (d + 10) + 120 := Nat.mul_succ 120 (d + 10)
  rw [e] at h2
  generalize 120 * (d + 10) = q at h2 ⊢
  omega
theorem sim_back (F : JF s0 args0 E p l R s m meth c y) {d : Nat} (IH : SimOK s0 E l d) (hRf : d + 11 ≤ R.frames) (hRl : 120 * (d + 11) ≤ R.locals) {y2 : Nat} {as : List Value} {o : Out} {h2 : AH} (hM : M d y2 as h = some (o, h2)) (hy : y2 < 90000) (hok : ∀ v ∈ as, okV v = true) (hG : GdW y2) :
    vx_Back l R p e below s args (jtY y2) len 20 (PreOf R (h2.1 - h.1) (h2.2.1 - h.2.1) (PcO s0 E as h)) (PostOf (QcO s0 E o h2) (h2.1 - h.1) (h2.2.1 - h.2.1) (frO s0)) (jx_Post (XCO s0 E o h2) (h2.1 - h.1) (h2.2.1 - h.2.1) (frO s0)) := by
  obtain ⟨w, hw, hwl, hp⟩ := word_of hG
  have hMet := IH y2 as h o h2 w hM hy hok hw hwl hp
  have hml : jtML y2 ≤ 89 := gd_M y2
  have hws : ∀ w' ∈ w :: lw_all, ∀ (a' : Array Value) (U : State), s.WarmedH U.vm → w'.before a' U = true := by
    intro w' hw' a' U hU
    have hW : s0.WarmedH U.vm := State.WarmedH.trans F.warm hU
    rcases List.mem_cons.mp hw' with rfl | h'
    · exact jw F.tbl hW hwl
    · exact jw F.tbl hW h'
  have hLo := loc_le hml hRl
  rcases hw with ⟨-, rfl⟩ | rfl
  · exact jx_back hMet blindO rfl rfl hRf hLo hws List.mem_cons_self
  · exact jx_backW hMet blindO rfl rfl hRf hLo hws List.mem_cons_self
theorem callE_fin {T : State} {cells slots mc ms : Nat} {rest : List Value} {a : Array Value} {o : Out} {h2 : AH} (hC : CallE p l e R s m args below meth c T locs cells slots (F0 m pc ls st) len rest a (PostOf (QcO s0 E o h2) mc ms (frO s0)) (jx_Post (XCO s0 E o h2) mc ms (frO s0)))
    (kn : ∀ (v : Option Value) (H2 : Heap) (L2 : List Loc), o = .inl v → RpH s0 E h2 H2 → (∀ z ∈ L2, s0.heap.size ≤ z.base) → W p l e R s m args below meth c H2 (locs ++ L2) (cells + mc) (slots + ms) Q (F0 m (pc + len) ls (v.toList ++ rest)))
    (kx : ∀ (q : Addr) (H2 : Heap) (L2 : List Loc), o = .inr q → RpH s0 E h2 H2 → (∀ z ∈ L2, s0.heap.size ≤ z.base) → vx_W p l e R s m args below meth c H2 (locs ++ L2) (cells + mc) (slots + ms) Q (F0 m pc ls rest) q) :
    ∃ t, Steps p.tables e below (T.setTop (F0 m pc ls st)) t ∧ Q t := by
  rcases hC with ⟨v, vm₁, ⟨U', l2, c2, s2⟩, hW₁, X', ⟨g', mk, t, L2, e1, e2, ⟨v', q1, q2, q3⟩, e3, hL, e4, e5⟩, st1⟩ | ⟨q, vm₁, ⟨U', l2, c2, s2⟩, hW₁, X', ⟨g', mk, t, L2, e1, e2, ⟨q1, q3⟩, e3, hL, e4, e5⟩, st1⟩
  · dsimp only [Pt.U, Pt.locs, Pt.cells, Pt.slots] at X' e1 e2 e3 e4 e5 st1
    subst e3; subst e4; subst e5
    cases q2
    obtain ⟨t2, a1, b1⟩ := kn v U'.heap L2 q1 (by rw [e1]; exact q3) hL U' rfl X'
    exact ⟨t2, st1 t2 a1, b1⟩
  · dsimp only [Pt.U, Pt.locs, Pt.cells, Pt.slots] at X' e1 e2 e3 e4 e5 st1
    subst e3; subst e4; subst e5
    obtain ⟨t2, a1, b1⟩ := kx q U'.heap L2 q1 (by rw [e1]; exact q3) hL U' rfl X'
    exact ⟨t2, st1.trans a1, b1⟩
end SimC
