/-! soundness 22: a call comes to its method -/
def okX (x : MethodName) (n : Nat) : Prop := (x.cls ≠ "java/lang/invoke/MethodHandle" ∧ x.cls ≠ "java/lang/invoke/VarHandle") ∧ (parseMethodDescriptor x.desc).map (fun d => d.parameters.length) = some n
def lkM (c k : Nat) (x : MethodName) : Prop := Cond.methodLink (cnm c) k x ∈ lw_all ∨ ∃ host : String, Cond.methodLinkNest (cnm c) k x host ∈ lw_tbl
/-- static -/
def CS (c k n z : Nat) : Prop := lkM c k (mnm z) ∧ Cond.static (mnm z) ∈ lw_all ∧ Cond.initialized (mnm z).cls ∈ lw_all ∧ okX (mnm z) n
/-- a constructor -/
def CN (c k n z : Nat) : Prop := lkM c k (mnm z) ∧ (mnm z).name = "<init>" ∧ Cond.instanceMethod (mnm z) ∈ lw_all ∧ Cond.code (mnm z) (mcode z) (mmax z) none ∈ lw_all ∧ okX (mnm z) n
/-- super -/
def CU (c k n z : Nat) : Prop := ∃ (x : MethodName) (owner : String), Cond.methodLink (cnm c) k x ∈ lw_all ∧ Cond.sameMethod x.cls owner x.name x.desc ∈ lw_all ∧ Cond.superclass (cnm c) x.cls ∈ lw_all ∧ mnm z = ⟨owner, x.name, x.desc⟩ ∧ Cond.instanceMethod (mnm z) ∈ lw_all ∧ x.name ≠ "<init>" ∧ (x.cls = owner ∨ Cond.superclass x.cls owner ∈ lw_all) ∧ okX x n
/-- by the receiver: what is named is what is run -/
def CA (c k n t z : Nat) : Prop := lkM c k (mnm z) ∧ Cond.instanceMethod (mnm z) ∈ lw_all ∧ Cond.selects (cnm t) (mnm z) (mnm z) ∈ lw_all ∧ okX (mnm z) n
/-- by the receiver, inherited or overriding -/
def CO (c k n t z : Nat) : Prop := ∃ (x : MethodName) (owner : String), Cond.methodLink (cnm c) k x ∈ lw_all ∧ Cond.sameMethod x.cls owner x.name x.desc ∈ lw_all ∧ (Cond.declares ⟨owner, x.name, x.desc⟩ ∈ lw_tbl ∨ ∃ y0, 0 < y0 ∧ y0 < 357 ∧ mnm y0 = ⟨owner, x.name, x.desc⟩ ∧ Cond.instanceMethod (mnm y0) ∈ lw_all) ∧ (owner ≠ "java/lang/invoke/MethodHandle" ∧ owner ≠ "java/lang/invoke/VarHandle") ∧ Cond.selects (cnm t) x (mnm z) ∈ lw_all ∧ Cond.instanceMethod (mnm z) ∈ lw_all ∧ okX x n
/-- through an interface -/
def CIf (c k n t z : Nat) : Prop := ∃ x : MethodName, Cond.methodLink (cnm c) k x ∈ lw_all ∧ Cond.declares x ∈ lw_tbl ∧ Cond.interfaceMethod x.cls x.cls x.name x.desc ∈ lw_tbl ∧ ((Cond.selects (cnm t) x (mnm z) ∈ lw_all ∧ Cond.unhidden (cnm t) x.name x.desc ∈ lw_tbl) ∨ Cond.landsInDefault (cnm t) x (mnm z) ∈ flatC (Cond.and given_1 narrow_1)) ∧ Cond.instanceMethod (mnm z) ∈ lw_all ∧ Cond.publicMethod (mnm z) ∈ lw_tbl ∧ Cond.castable (cnm t) x.cls ∈ lw_tbl ∧ okX x n
section
variable {Z : SS0} {D : DD} {p : Program} {l : Launch} {e : Env} {R : Room} {s : State} {m : MethodId} {args : Array Value} {below : List Frame} {meth : Method} {c : Code} {T : State} {locs : List Loc} {cells slots : Nat} {y k n t z : Nat} {g : JFrame} {argsL rest : List Value}
/-- the walk comes to the call of method z -/
def Inv (p : Program) (l : Launch) (e : Env) (R : Room) (s : State) (m : MethodId) (args : Array Value) (below : List Frame) (meth : Method) (c : Code) (T : State) (locs : List Loc) (cells slots : Nat) (g : JFrame) (rest : List Value) (z : Nat) (a : Array Value) : Prop :=
  ∃ (vm₁ : Vm) (mk : MethodId), Stand p l e R s m args below meth c (T.setVm vm₁) locs cells slots ∧ s.methodNamed? (mnm z) = some mk ∧ ∀ target, Steps p.tables e below (doInvoke e ((T.setVm vm₁).setTop { g with stack := rest }) [] mk a).1 target → Steps p.tables e below (T.setTop g) target
theorem okX.len {x : MethodName} {n : Nat} (h : okX x n) {sig : MethodDescriptor} (hs : parseMethodDescriptor x.desc = some sig) : n = sig.parameters.length := by
  have h2 := h.2
  rw [hs] at h2
  exact (Option.some.inj h2).symm
theorem inv_S (hB : Base Z D) (C : Ctx Z p s m meth c y) (X : Stand p l e R s m args below meth c T locs cells slots) (h : CS (mcls y) k n z) (h0 : 0 < z) (h1 : z < 357) (hg : g.method = m) (hn : argsL.length = n) (hstack : g.stack = argsL.reverse ++ rest) (hdg : decode c.code g.pc = .ok (.invokestatic k, 3)) : Inv p l e R s m args below meth c T locs cells slots g rest z argsL.toArray := by
  obtain ⟨hlink, hst, hini, hok⟩ := h
  have hW := C.2.2.2.1
  have hown := C.2.2.2.2.1
  obtain ⟨mk, methM, cM, hnamed, hmethM, hcM, -, -, -, -, -, hsig⟩ := mf_at (s := s) hB hW h0 h1
  have hstatic : methM.isStatic = true := Cond.static_spec hnamed hmethM (hB.word (args := args) hW hst)
  obtain ⟨kP, hkP, -⟩ := className_of_methodNamed hnamed
  have hinitP : kP.init = .initialized := Cond.initialized_spec (findClass_of_methodNamed hnamed) hkP (hB.word (args := args) hW hini)
  have hlen : argsL.length = methM.sig.parameters.length := hn.trans (hok.len hsig)
  rcases hlink with hl | ⟨host, hl⟩
  · obtain ⟨vm₁, X₁, hstep₁⟩ := X.invokestatic C.1 hown (hB.word hW hl) hnamed hmethM hstatic hkP hinitP hok.1 (g := g) hg (argsL := argsL) (rest := rest) hlen hstack hdg
    exact ⟨vm₁, mk, X₁, hnamed, fun target h => hstep₁ _ fun acts => by rw [doInvoke_state]; exact h⟩
  · obtain ⟨vm₁, X₁, hstep₁⟩ := X.invokestaticNest C.1 hown (va_Nw.use rfl (va_Nw.warmM hW (va_Nw.of rfl (hB.1 _ hl)))) hnamed hmethM hstatic hkP hinitP hok.1 (g := g) hg (argsL := argsL) (rest := rest) hlen hstack hdg
    exact ⟨vm₁, mk, X₁, hnamed, fun target h => hstep₁ _ fun acts => by rw [doInvoke_state]; exact h⟩
theorem inv_N (hB : Base Z D) (C : Ctx Z p s m meth c y) (X : Stand p l e R s m args below meth c T locs cells slots) (h : CN (mcls y) k n z) (hg : g.method = m) {b : Addr} (hn : argsL.length = n) (hstack : g.stack = argsL.reverse ++ .ref b :: rest) (hdg : decode c.code g.pc = .ok (.invokespecial k, 3)) : Inv p l e R s m args below meth c T locs cells slots g rest z (Value.ref b :: argsL).toArray := by
  obtain ⟨hlink, hnm, hinst, hcode, hok⟩ := h
  have hW := C.2.2.2.1
  have hown := C.2.2.2.2.1
  subst hg
  have hpl : e.platform.magicAccessors = ({} : Platform).magicAccessors := by rw [X.admits.platform]
  have hlen : ∀ sig, parseMethodDescriptor (mnm z).desc = some sig → argsL.length = sig.parameters.length := fun sig h => hn.trans (hok.len h)
  rcases hlink with hl | ⟨host, hl⟩
  · obtain ⟨mk, methM, cM, kP, vm₁, hnamed, hmethM, hcodeM, -, hlocalsM, -, hkP, -, hW₁, hstep₁⟩ := Steps.initColdArgs (e := e) X.here C.1 X.warmed hpl hown hnm hok.1 (hB.word (args := args) hW hl) (hB.word (args := args) hW hinst) (hB.word (args := args) hW hcode) (f := g) rfl hlen hstack hdg
    exact ⟨vm₁, mk, X.noted hW₁, hnamed, fun target h => hstep₁ _ fun acts => by rw [doInvoke_state]; exact h⟩
  · obtain ⟨mk, methM, cM, kP, vm₁, hnamed, hmethM, hcodeM, -, hlocalsM, -, hkP, -, hW₁, hstep₁⟩ := Steps.initColdArgsNest (e := e) X.here C.1 X.warmed hpl hown hnm hok.1 (va_Nw.use (A := args) rfl (va_Nw.warmM hW (va_Nw.of rfl (hB.1 _ hl)))) (hB.word (args := args) hW hinst) (hB.word (args := args) hW hcode) (f := g) rfl hlen hstack hdg
    exact ⟨vm₁, mk, X.noted hW₁, hnamed, fun target h => hstep₁ _ fun acts => by rw [doInvoke_state]; exact h⟩
theorem sub_one {vm : Vm} {a b : ClassId} {k : Class} (hk : vm.classes[a]? = some k) (hs : k.super = some b) : vm.isSubclass a b = true := by
  have h0 : 0 < vm.classes.size := Nat.lt_of_le_of_lt (Nat.zero_le _) (Array.getElem?_eq_some_iff.mp hk).1
  obtain ⟨f, hf⟩ : ∃ f, vm.classes.size = f + 1 := ⟨vm.classes.size - 1, by omega⟩
  unfold Vm.isSubclass
  rw [hf]
  simp [Vm.isSubclassAux, hk, hs]
theorem inv_U (hB : Base Z D) (C : Ctx Z p s m meth c y) (X : Stand p l e R s m args below meth c T locs cells slots) (h : CU (mcls y) k n z) (h0 : 0 < z) (h1 : z < 357) (hg : g.method = m) {b : Addr} {cellB : Cell} {kB : Class} (hcell : T.heap[b]? = some cellB) (hobj : cellB.vm.isStatics = false) (hkB : s.vm.classes[cellB.cls]? = some kB) (hn : argsL.length = n) (hstack : g.stack = argsL.reverse ++ .ref b :: rest) (hdg : decode c.code g.pc = .ok (.invokespecial k, 3)) : Inv p l e R s m args below meth c T locs cells slots g rest z (Value.ref b :: argsL).toArray := by
  obtain ⟨x, owner, hl, hsame, hsup, hz, hinst, hno, hxo, hok⟩ := h
  have hW := C.2.2.2.1
  have hown := C.2.2.2.2.1
  obtain ⟨mk, methM, hnamed, hmethM, hstM, habM⟩ := Cond.instanceMethod_spec (hB.word (args := args) hW hinst)
  obtain ⟨mk', methM', cM, hnamed', hmethM', -, -, -, -, -, -, hsigM⟩ := mf_at (s := s) hB hW h0 h1
  cases hnamed.symm.trans hnamed'
  cases hmethM.symm.trans hmethM'
  obtain ⟨ps, dk, kp, hps, hdk, hkp, hsuper, -, -, hnid⟩ := Cond.superclass_spec hown (hB.word (args := args) hW hsup)
  have hn0 : s.methodNamed? ⟨owner, x.name, x.desc⟩ = some mk := by rw [← hz]; exact hnamed
  have hfo : s.vm.findClass owner = some mk.cls := findClass_of_methodNamed hn0
  have hsub : s.vm.isSubclass ps mk.cls = true := by
    rcases hxo with e | h
    · have hpm : ps = mk.cls := Option.some.inj (hps.symm.trans (by rw [e]; exact hfo))
      rw [hpm]; simp [Vm.isSubclass, Vm.isSubclassAux]
    · obtain ⟨q, k1, k2, hq, hk1, -, hs1, -⟩ := Cond.superclass_spec hps (hB.word (args := args) hW h)
      cases hfo.symm.trans hq
      exact sub_one hk1 hs1
  have hsig : parseMethodDescriptor x.desc = some methM.sig := by rw [hz] at hsigM; exact hsigM
  obtain ⟨vm₁, X₁, hstep₁⟩ := X.invokespecialUp C.1 hown (hB.word hW hl) (hB.word hW hsame) hn0 hmethM hstM habM hno hdk hnid hps hsuper hsub (a := b) (cell := cellB) hcell
    (fun z h => by rw [h] at hobj; cases hobj) hkB (g := g) hg (argsL := argsL) (rest := rest) (hn.trans (hok.len hsig)) hstack hdg
  exact ⟨vm₁, mk, X₁, hnamed, fun target h => hstep₁ _ h⟩
theorem inv_A (hB : Base Z D) (C : Ctx Z p s m meth c y) (X : Stand p l e R s m args below meth c T locs cells slots) (h : CA (mcls y) k n t z) (h0 : 0 < z) (h1 : z < 357) (hg : g.method = m) {b : Addr} {cellB : Cell} (hcell : T.heap[b]? = some cellB) (hobj : cellB.vm.isStatics = false) (hcls : s.vm.findClass (cnm t) = some cellB.cls) (hn : argsL.length = n) (hstack : g.stack = argsL.reverse ++ .ref b :: rest) (hdg : decode c.code g.pc = .ok (.invokevirtual k, 3)) : Inv p l e R s m args below meth c T locs cells slots g rest z (Value.ref b :: argsL).toArray := by
  obtain ⟨hlink, hinst, hsel, hok⟩ := h
  have hW := C.2.2.2.1
  have hown := C.2.2.2.2.1
  obtain ⟨mk, methM, hnamed, hmethM, hstM, habM⟩ := Cond.instanceMethod_spec (hB.word (args := args) hW hinst)
  obtain ⟨mk', methM', cM, hnamed', hmethM', -, -, -, -, -, -, hsigM⟩ := mf_at (s := s) hB hW h0 h1
  cases hnamed.symm.trans hnamed'
  cases hmethM.symm.trans hmethM'
  obtain ⟨c2, r2, m2, q1, q2, q3, q4, kP, hkP, hkPi⟩ := Cond.selects_spec (hB.word (args := args) hW hsel)
  cases hcls.symm.trans q1
  cases (State.methodFound?_of_named hnamed hok.1).symm.trans q2
  cases hnamed.symm.trans q3
  have hselP : selectMethod e.platform s.vm cellB.cls mk = .method mk := by rw [Launch.admits_selectMethod X.admits]; exact q4
  have hlen : argsL.length = methM.sig.parameters.length := hn.trans (hok.len hsigM)
  rcases hlink with hl | ⟨host, hl⟩
  · obtain ⟨vm₁, X₁, hstep₁⟩ := X.invokevirtual C.1 hown (hB.word hW hl) hnamed hmethM hstM hkP hkPi hok.1 (a := b) (cell := cellB) hcell
      (fun z h => by rw [h] at hobj; cases hobj) hselP hmethM habM hkP hkPi (g := g) hg (argsL := argsL) (rest := rest) hlen hstack hdg
    exact ⟨vm₁, mk, X₁, hnamed, fun target h => hstep₁ _ fun acts => by rw [doInvoke_state]; exact h⟩
  · obtain ⟨vm₁, X₁, hstep₁⟩ := X.invokevirtualNest C.1 hown (va_Nw.use rfl (va_Nw.warmM hW (va_Nw.of rfl (hB.1 _ hl)))) hnamed hmethM hstM hkP hkPi hok.1 (a := b) (cell := cellB) hcell
      (fun z h => by rw [h] at hobj; cases hobj) hselP hmethM habM hkP hkPi (g := g) hg (argsL := argsL) (rest := rest) hlen hstack hdg
    exact ⟨vm₁, mk, X₁, hnamed, fun target h => hstep₁ _ fun acts => by rw [doInvoke_state]; exact h⟩
theorem inv_O (hB : Base Z D) (C : Ctx Z p s m meth c y) (X : Stand p l e R s m args below meth c T locs cells slots) (h : CO (mcls y) k n t z) (hg : g.method = m) {b : Addr} {cellB : Cell} (hcell : T.heap[b]? = some cellB) (hobj : cellB.vm.isStatics = false) (hcls : s.vm.findClass (cnm t) = some cellB.cls) (hn : argsL.length = n) (hstack : g.stack = argsL.reverse ++ .ref b :: rest) (hdg : decode c.code g.pc = .ok (.invokevirtual k, 3)) : Inv p l e R s m args below meth c T locs cells slots g rest z (Value.ref b :: argsL).toArray := by
  obtain ⟨x, owner, hl, hsame, hdecl, howner, hsel, hinst, hok⟩ := h
  have hW := C.2.2.2.1
  have hown := C.2.2.2.2.1
  have hd0 : va_Decl s ⟨owner, x.name, x.desc⟩ := by
    rcases hdecl with h | ⟨y0, h0, h1, e, h⟩
    · exact va_Decl.abs (va_Nw.warmD hW (va_Nw.of rfl (hB.1 _ h)))
    · obtain ⟨mk, methM, hnamed, hmethM, hstM, habM⟩ := Cond.instanceMethod_spec (hB.word (args := args) hW h)
      obtain ⟨mk', methM', cM, hnamed', hmethM', -, -, -, -, -, -, hsigM⟩ := mf_at (s := s) hB hW h0 h1
      cases hnamed.symm.trans hnamed'
      cases hmethM.symm.trans hmethM'
      rw [e] at hnamed hsigM
      exact ⟨mk, methM, hnamed, hmethM, hstM, hsigM⟩
  obtain ⟨r0, r, hn0, hrm, hstR, hsigR⟩ := hd0
  have hsm := hB.word (args := args) hW hsame
  obtain ⟨cn, ck, r1, hcn, hck, hni, hf, hn1⟩ := Cond.sameMethod_found hsm
  cases hn0.symm.trans hn1
  obtain ⟨mk, methM, hnamed, hmethM, -, habM⟩ := Cond.instanceMethod_spec (hB.word (args := args) hW hinst)
  obtain ⟨c2, r2, m2, q1, q2, q3, q4, kP, hkP, hkPi⟩ := Cond.selects_spec (hB.word (args := args) hW hsel)
  cases hcls.symm.trans q1
  cases hf.symm.trans q2
  cases hnamed.symm.trans q3
  have hselP : selectMethod e.platform s.vm cellB.cls r0 = .method mk := by rw [Launch.admits_selectMethod X.admits]; exact q4
  obtain ⟨vm₁, X₁, hstep₁⟩ := X.invokevirtualUp C.1 hown (hB.word hW hl) hsm howner hn0 hrm hstR (a := b) (cell := cellB) hcell
    (fun z h => by rw [h] at hobj; cases hobj) hselP hmethM habM hkP hkPi (g := g) hg (argsL := argsL) (rest := rest) (hn.trans (hok.len hsigR)) hstack hdg
  exact ⟨vm₁, mk, X₁, hnamed, fun target h => hstep₁ _ fun acts => by rw [doInvoke_state]; exact h⟩
/-- where a default method is taken -/
theorem lands {U : State} {A : Array Value} {cls : String} {x w : MethodName} (h : (Cond.landsInDefault cls x w).before A U = true) :
    ∃ c r m rm, U.vm.findClass cls = some c ∧ U.methodFound? x.cls x.name x.desc = some r ∧ U.methodNamed? w = some m ∧ U.vm.method? r = some rm ∧ selectMethod {} U.vm c r = .method m ∧
      ((c :: U.vm.superclasses c).any fun k => (declaredIn U.vm rm.name rm.desc k).any fun (_, z) => z.isPrivate || z.isStatic) = false := by
  simp only [Cond.before, Cond.holds, Cond.value] at h
  cases hc : U.vm.findClass cls with
  | none => simp [hc] at h
  | some c =>
  cases hr : U.methodFound? x.cls x.name x.desc with
  | none => simp [hc, hr] at h
  | some r =>
  cases hm : U.methodNamed? w with
  | none => simp [hc, hr, hm] at h
  | some m =>
  cases hrm : U.vm.method? r with
  | none => simp [hc, hr, hm, hrm] at h
  | some rm =>
  simp only [hc, hr, hm, hrm, Option.map_some, beq_iff_eq, Option.some.injEq] at h
  split at h
  · rename_i m' hsel
    simp only [Bool.and_eq_true, decide_eq_true_eq, Bool.not_eq_true', Option.any_eq_true] at h
    obtain ⟨⟨⟨⟨rfl, mk, hmk, hi⟩, -⟩, hway⟩, hnear⟩ := h
    exact ⟨c, r, m', rm, rfl, rfl, rfl, hrm, hsel, hway⟩
  · cases h
theorem inv_I (hB : Base Z D) (C : Ctx Z p s m meth c y) (X : Stand p l e R s m args below meth c T locs cells slots) (h : CIf (mcls y) k n t z) (hg : g.method = m) {b : Addr} {cellB : Cell} {kB : Class} (hcell : T.heap[b]? = some cellB) (hobj : cellB.vm.isStatics = false) (hcls : s.vm.findClass (cnm t) = some cellB.cls) (hkB : s.vm.classes[cellB.cls]? = some kB) {cnt : Nat} (hn : argsL.length = n) (hstack : g.stack = argsL.reverse ++ .ref b :: rest) (hdg : decode c.code g.pc = .ok (.invokeinterface k cnt, 5)) : Inv p l e R s m args below meth c T locs cells slots g rest z (Value.ref b :: argsL).toArray := by
  obtain ⟨x, hl, hdecl, hface, hsel, hinst, hpub, hcast, hok⟩ := h
  have hW := C.2.2.2.1
  have hown := C.2.2.2.2.1
  have hal := hW.alike
  obtain ⟨r0, r, hn0, hrm, hstR, hsigR⟩ := Cond.declares_spec (va_Nw.warmD hW (va_Nw.of rfl (hB.1 _ hdecl)))
  obtain ⟨rz, rzm, hnz, hrzm, -, -⟩ := Cond.declares_spec (hB.1 _ hdecl)
  have hface' : (Cond.interfaceMethod x.cls x.cls x.name x.desc).before args s = true := va_tabs rfl (rfl : (Z.s.setVm s.vm).vm = s.vm) (by rw [Cond.interfaceMethod_setVm hal (r := rz) hnz hok.1]; exact hB.1 _ hface)
  obtain ⟨cL, kL, r1, hcL, hkL, hiL, hfoundL, hn1⟩ := Cond.interfaceMethod_spec hface'
  cases hn0.symm.trans hn1
  have hr0cls : r0.cls = cL := Option.some.inj ((findClass_of_methodNamed hn0).symm.trans hcL)
  obtain ⟨hnameR, hdescR⟩ := name_of_methodNamed hn0 hrm
  obtain ⟨mk, methM, hnamed, hmethM, -, habM⟩ := Cond.instanceMethod_spec (hB.word (args := args) hW hinst)
  have hpub' : (Cond.publicMethod (mnm z)).before args s = true := va_tabs rfl (rfl : (Z.s.setVm s.vm).vm = s.vm) (by rw [Cond.publicMethod_setVm hal]; exact hB.1 _ hpub)
  have hpubM : hasFlag methM.accessFlags Acc.public_ = true := Cond.publicMethod_spec hnamed hmethM hpub'
  have hkey : selectMethod {} s.vm cellB.cls r0 = .method mk ∧ ((cellB.cls :: s.vm.superclasses cellB.cls).any fun k => (declaredIn s.vm r.name r.desc k).any fun (_, z) => z.isPrivate || z.isStatic) = false := by
    rcases hsel with ⟨h1, h2⟩ | h1
    · obtain ⟨c2, r2, m2, q1, q2, q3, q4, -⟩ := Cond.selects_spec (hB.word (args := args) hW h1)
      cases hcls.symm.trans q1
      cases hfoundL.symm.trans q2
      cases hnamed.symm.trans q3
      refine ⟨q4, ?_⟩
      have hunh : (Cond.unhidden (cnm t) x.name x.desc).before args s = true := va_tabs rfl (rfl : (Z.s.setVm s.vm).vm = s.vm) (by rw [Cond.unhidden_setVm hal]; exact hB.1 _ h2)
      rw [hnameR, hdescR]; exact Cond.unhidden_spec hcls hunh
    · obtain ⟨c2, r2, m2, rm, q1, q2, q3, q5, q4, q6⟩ := lands (flat_of_before _ hB.2.1 _ h1)
      have e1 : s.vm.findClass (cnm t) = some c2 := by rw [hal.findClass]; exact q1
      cases hcls.symm.trans e1
      obtain ⟨cLz, kLz, r1z, -, -, -, hfoundZ, hn1z⟩ := Cond.interfaceMethod_spec (hB.1 _ hface)
      have e2 : s.methodNamed? x = some r1z := by
        have q : (Z.s.setVm s.vm).methodNamed? x = some r1z := by rw [State.methodNamed?_setVm hal]; exact hn1z
        exact q
      cases hn0.symm.trans e2
      cases hfoundZ.symm.trans q2
      have e3 : s.methodNamed? (mnm z) = some m2 := by
        have q : (Z.s.setVm s.vm).methodNamed? (mnm z) = some m2 := by rw [State.methodNamed?_setVm hal]; exact q3
        exact q
      cases hnamed.symm.trans e3
      have e4 : s.vm.method? r0 = some rm := by rw [hal.method?]; exact q5
      cases hrm.symm.trans e4
      refine ⟨by rw [hal.selectMethod]; exact q4, ?_⟩
      simp only [hal.superclasses, hal.declaredIn]
      exact q6
  have hselP : selectMethod e.platform s.vm cellB.cls r0 = .method mk := by rw [Launch.admits_selectMethod X.admits]; exact hkey.1
  obtain ⟨c3, t3, w1, w2, w3⟩ := Cond.castable_spec (va_Nw.use (A := args) rfl (va_Nw.warmC hW (va_Nw.of rfl (hB.1 _ hcast))))
  cases hcls.symm.trans w1
  cases hcL.symm.trans w2
  obtain ⟨vm₁, X₁, hstep₁⟩ := X.invokeinterface C.1 hown (hB.word hW hl) hn0 hrm hstR (by rw [hr0cls]; exact hkL) hiL hok.1 (a := b) (cell := cellB) (kcell := kB) hcell
    (fun z h => by rw [h] at hobj; cases hobj) hkB (by rw [hr0cls]; exact w3) hselP hmethM hkey.2 hpubM habM (g := g) hg (argsL := argsL) (rest := rest) (hn.trans (hok.len hsigR)) hstack hdg
  exact ⟨vm₁, mk, X₁, hnamed, fun target h => hstep₁ _ fun acts => by rw [doInvoke_state]; exact h⟩
end
