/-! soundness 31: what an exception's making asks -/
section
variable {Z : SS0} {D : DD} {s : State} {A A' : Array Value}
theorem ls_at (hW : Z.s.WarmedH s.vm) (hH : Hp Z s) {O f d : String} (h : (Cond.laysStatic O f d).before A Z.s = true) : (Cond.laysStatic O f d).before A' s = true := by
  obtain ⟨c, k, i, fd, a, cell, hc, hi, hst, ha, hcell, hs, hcls, hlt, hty⟩ := Cond.laysStatic_spec h
  obtain ⟨k', hi', he⟩ := State.fieldFound?_setVm hW.alike hi
  have hi2 : s.fieldFound? O f d = some (c, k', i, fd) := hi'
  have hc2 : s.vm.findClass O = some c := by rw [hW.alike.findClass]; exact hc
  have ha2 : k'.statics = some a := by rw [he]; exact ha
  have hty2 : k'.staticTypes[fd.slot]? = some fd.type := by rw [he]; exact hty
  have hcell2 : s.heap[a]? = some cell := by rw [hH a (Array.getElem?_eq_some_iff.mp hcell).1]; exact hcell
  simp [Cond.before, Cond.holds, Cond.value, hc2, hi2, ha2, hcell2, hst, hs, hcls, hlt, hty2]
theorem rf_at (hW : Z.s.WarmedH s.vm) (hH : Hp Z s) {O f d : String} (h : (Cond.laysStatic O f d).before A Z.s = true) (hr : (Cond.isRef (.static O f d)).before A Z.s = true) : (Cond.isRef (.static O f d)).before A' s = true := by
  obtain ⟨c, k, i, fd, a, cell, hc, hi, hst, ha, hcell, hs, hcls, hlt, hty⟩ := Cond.laysStatic_spec h
  obtain ⟨k', hi', he⟩ := State.fieldFound?_setVm hW.alike hi
  have hi2 : s.fieldFound? O f d = some (c, k', i, fd) := hi'
  have ha2 : k'.statics = some a := by rw [he]; exact ha
  have hcell2 : s.heap[a]? = some cell := by rw [hH a (Array.getElem?_eq_some_iff.mp hcell).1]; exact hcell
  have e1 : (Term.static O f d).eval A Z.s none [] Z.s = cell.slots[fd.slot]? := by simp [Term.eval, State.fieldNamed?, hi, hst, ha, hcell, hs]
  have e2 : (Term.static O f d).eval A' s none [] s = cell.slots[fd.slot]? := by simp [Term.eval, State.fieldNamed?, hi2, hst, ha2, hcell2, hs]
  simp only [Cond.before, Cond.holds, Cond.value] at hr ⊢
  rw [e1] at hr
  rw [e2]
  exact hr
theorem aw_at (hB : Base Z D) (hW : Z.s.WarmedH s.vm) (hH : Hp Z s) {w : Cond} (h : AW w) : w.before A s = true := by
  rcases h with h | ⟨a, b, rfl, h⟩ | ⟨x, rfl, h⟩ | ⟨a, b, c, rfl, h⟩ | ⟨a, b, c, rfl, h, h2⟩
  · exact hB.word hW h
  · exact va_Nw.use rfl (va_Nw.warmC hW (va_Nw.of rfl (hB.1 _ h)))
  · exact va_Nw.use rfl (va_Nw.warmD hW (va_Nw.of rfl (hB.1 _ h)))
  · exact ls_at hW hH (hB.1 _ h)
  · exact rf_at hW hH (hB.1 _ h2) (flat_of_before _ hB.2.1 _ h)
end
/-- the cell of Throwable's statics is an old one -/
theorem aS_old {Z : SS0} {D : DD} {s : State} {pl : Platform} {T : ThrowableC} {Z0 : Init0T} (hB : Base Z D) (hW : Z.s.WarmedH s.vm) (L : T.Links pl s) (Y : Jvm.Bundle.Ties T Z0 s) : T.aS < Z.s.heap.size := by
  obtain ⟨c, k, i, fd, a, cell, hc, hi, hst, ha, hcell, hs, hcls, hlt, hty⟩ := Cond.laysStatic_spec (hB.1 _ q563)
  have hc2 : s.vm.findClass Jvm.Bundle.tN = some c := by rw [hW.alike.findClass]; exact hc
  cases hc2.symm.trans Y.found
  have hk := (State.fieldFound?_spec hi).1
  obtain ⟨k', hk', he⟩ := hW.alike.2.2 _ _ hk
  cases hk'.symm.trans L.cls
  have h1 : T.kT.statics = some a := by rw [he]; exact ha
  cases h1.symm.trans L.statics
  exact (Array.getElem?_eq_some_iff.mp hcell).1
section
variable {Z : SS0} {D : DD} {p : Program} {l : Launch} {e : Env} {R : Room} {s : State} {m : MethodId} {args : Array Value} {below : List Frame} {meth : Method} {c : Code} {T' : State} {locs : List Loc} {cells slots : Nat}
set_option maxHeartbeats 4000000 in
/-- a NullPointerException is made and thrown over the frame -/
theorem npe_at (X : Stand p l e R s m args below meth c T' locs cells slots) (hexec : p.tables.exec = Jvm.exec) (htr : e.platform.stackTraces = false) (hB : Base Z D) (hW : Z.s.WarmedH s.vm) (hH : Hp Z s) (hHT : ∀ q, q < Z.s.heap.size → T'.heap[q]? = Z.s.heap[q]?) (hbig : Z.s.heap.size ≤ T'.heap.size)
    {g : JFrame} (hg : g.method = m) (hsize : g.locals.size = c.maxLocals) (hRframes : 7 < R.frames) (hRlocals : 2 * g.monitorRoom + (g.stack.map fun v => v.category).sum + 10240 ≤ R.locals) (hRcells : cells + 1 ≤ R.cells) (hRslots : slots + 8 ≤ R.slots) :
    ∃ (U : State) (L1 : List Loc), Stand p l e R s m args below meth c U (locs ++ L1) (cells + 1) (slots + 8) ∧ (∀ q ∈ L1, q.base = T'.heap.size) ∧ U.heap.size = T'.heap.size + 1 ∧ (∀ q, q < T'.heap.size → U.heap[q]? = T'.heap[q]?) ∧
      (∃ cell : Cell, U.heap[T'.heap.size]? = some cell ∧ s.vm.findClass "java/lang/NullPointerException" = some cell.cls ∧ cell.vm = .none) ∧
      Steps p.tables e below ((T'.setTop g).pushFrame (.throwNew "java/lang/NullPointerException" none none)) ((U.setTop g).pushFrame (.throwing T'.heap.size)) := by
  have h : ∀ a ∈ Jvm.Bundle.npeArmAtoms 8, a.before args s = true := fun w hw => aw_at hB hW hH (aw_npe w hw)
  have howns : e.platform.frameOwnsMonitors = true := by rw [X.admits.platform]
  have hfin : e.platform.finalization = false := by rw [X.admits.platform]
  have hpl : e.platform.magicAccessors = ({} : Platform).magicAccessors := by rw [X.admits.platform]
  have hpl2 : e.platform.arrayCloneIsPublic = true := by rw [X.admits.platform]
  have a : ∀ x, x ∈ Jvm.Bundle.npeArmAtoms 8 → x.holds args s none s [] = true := fun x hx => h x hx
  obtain ⟨T, Z0, L, LZ, Y⟩ := ThrowableC.of_atoms (args := args) howns hfin hpl (fun x hx => h x (by simp [Jvm.Bundle.npeArmAtoms, hx]))
  obtain ⟨N, LN, hcN, hnNF, hordN, hffS⟩ := NpeC.of_atoms (args := args) hpl hpl2 L Y (fun x hx => h x (by simp [Jvm.Bundle.npeArmAtoms, hx]))
  obtain ⟨P1, L1, hP1m, hP1s⟩ := PassC.of_atoms (args := args) (s := s) hpl (X := Jvm.Bundle.nN) (Y := Jvm.Bundle.rN) (by decide) (by decide) LibCode.NullPointerException.Init0.at_0 LibCode.NullPointerException.Init0.at_1 LibCode.NullPointerException.Init0.at_4 (fun x hx => h x (by simp [Jvm.Bundle.npeArmAtoms, hx]))
  obtain ⟨PR, LR, hPRm, hPRs⟩ := PassC.of_atoms (args := args) (s := s) hpl (X := Jvm.Bundle.rN) (Y := Jvm.Bundle.eN) (by decide) (by decide) LibCode.RuntimeException.Init0.at_0 LibCode.RuntimeException.Init0.at_1 LibCode.RuntimeException.Init0.at_4 (fun x hx => h x (by simp [Jvm.Bundle.npeArmAtoms, hx]))
  obtain ⟨PE, LEx, hPEm, hPEs⟩ := PassC.of_atoms (args := args) (s := s) hpl (X := Jvm.Bundle.eN) (Y := Jvm.Bundle.tN) (by decide) (by decide) LibCode.Exception.Init0.at_0 LibCode.Exception.Init0.at_1 LibCode.Exception.Init0.at_4 (fun x hx => h x (by simp [Jvm.Bundle.npeArmAtoms, hx]))
  have hfound : s.vm.findClass Jvm.Bundle.nN = some P1.m.cls := findClass_of_methodNamed hP1m
  have ecls : N.cN = P1.m.cls := Option.some.inj (hcN.symm.trans hfound)
  have hk : s.vm.classes[P1.m.cls]? = some N.kN := by rw [← ecls]; exact LN.cls
  have hinit := Cond.initialized_spec hfound hk (a (.initialized Jvm.Bundle.nN) (by simp [Jvm.Bundle.npeArmAtoms]))
  have hctor : N.kN.findMethod "<init>" "()V" = some P1.m.idx := findMethod_of_methodNamed hP1m hk
  obtain ⟨c1, k1, hc1, hk1, -, -, -, hn⟩ := Cond.instantiable_spec (a (.instantiable Jvm.Bundle.nN 8) (by simp [Jvm.Bundle.npeArmAtoms]))
  cases Option.some.inj (hc1.symm.trans hfound)
  cases Option.some.inj (hk1.symm.trans hk)
  have hlink1 : P1.sup = PR.m := Option.some.inj (hP1s.symm.trans hPRm)
  have hlinkR : PR.sup = PE.m := Option.some.inj (hPRs.symm.trans hPEm)
  have hlinkE : PE.sup = Z0.m T.toThrowableT := Option.some.inj (hPEs.symm.trans Y.init0)
  have hsel0 : selectMethod e.platform s.vm P1.m.cls T.fill0 = .method T.fill0 := by
    obtain ⟨c2, r2, m2, q1, q2, q3, q4, -⟩ := Cond.selects_spec (a (.selects Jvm.Bundle.nN Jvm.Bundle.tFill0 Jvm.Bundle.tFill0) (by simp [Jvm.Bundle.npeArmAtoms]))
    cases Option.some.inj (q1.symm.trans hfound)
    cases Option.some.inj (q2.symm.trans (State.methodFound?_of_named Y.fill0 (by decide)))
    cases Option.some.inj (q3.symm.trans Y.fill0)
    rw [Launch.admits_selectMethod X.admits]; exact q4
  have hselF : selectMethod e.platform s.vm P1.m.cls T.fill = .method N.fill := by
    obtain ⟨c2, r2, m2, q1, q2, q3, q4, -⟩ := Cond.selects_spec (a (.selects Jvm.Bundle.nN Jvm.Bundle.tFill Jvm.Bundle.nFill) (by simp [Jvm.Bundle.npeArmAtoms]))
    cases Option.some.inj (q1.symm.trans hfound)
    cases Option.some.inj (q2.symm.trans (State.methodFound?_of_named Y.fill (by decide)))
    cases Option.some.inj (q3.symm.trans hnNF)
    rw [Launch.admits_selectMethod X.admits]; exact q4
  obtain ⟨cellS0, hcS0, hiss⟩ := Y.statics
  have hold := aS_old hB hW L Y
  have hcellS : T'.heap[T.aS]? = some cellS0 := by rw [hHT _ hold, ← hH _ hold]; exact hcS0
  obtain ⟨u0, hu0⟩ := Cond.staticRefV Y.unassigned L.unassignedStatic L.statics hcS0 hiss (a (.isRef (.static Jvm.Bundle.tN "UNASSIGNED_STACK" Jvm.Bundle.steD)) (by simp [Jvm.Bundle.npeArmAtoms]))
  obtain ⟨sen, hsen⟩ := Cond.staticRefV Y.sentinel L.sentinelStatic L.statics hcS0 hiss (a (.isRef (.static Jvm.Bundle.tN "SUPPRESSED_SENTINEL" Jvm.Bundle.listD)) (by simp [Jvm.Bundle.npeArmAtoms]))
  obtain ⟨ci198, i198, fB, hk198, hg198, ha198, hsB, -, hnB, htB, hffB⟩ := Cond.ownField (t := .object "java/lang/Object") Y.found L.cls (by decide +kernel) (a (.fieldLink Jvm.Bundle.tN 198 Jvm.Bundle.tN "backtrace" Jvm.Bundle.objD) (by simp [Jvm.Bundle.npeArmAtoms])) (a (.lays Jvm.Bundle.tN Jvm.Bundle.tN "backtrace" Jvm.Bundle.objD) (by simp [Jvm.Bundle.npeArmAtoms])) e.platform hpl
  have hknownS : cellS0.vm ≠ .unknown := by
    intro hu
    rw [show cellS0.vm = .unknown from hu] at hiss
    cases hiss
  obtain ⟨tyC, dC, hdC, hdnC⟩ := Cond.laysAt hfound hk Y.cause (a (.lays Jvm.Bundle.nN Jvm.Bundle.tN "cause" "Ljava/lang/Throwable;") (by simp [Jvm.Bundle.npeArmAtoms]))
  obtain ⟨tyS, dS, hdS, hdnS⟩ := Cond.laysAt hfound hk Y.stack (a (.lays Jvm.Bundle.nN Jvm.Bundle.tN "stackTrace" Jvm.Bundle.steD) (by simp [Jvm.Bundle.npeArmAtoms]))
  obtain ⟨tyP, dP, hdP, hdnP⟩ := Cond.laysAt hfound hk Y.supp (a (.lays Jvm.Bundle.nN Jvm.Bundle.tN "suppressedExceptions" Jvm.Bundle.listD) (by simp [Jvm.Bundle.npeArmAtoms]))
  obtain ⟨tyX, dX, hdX, hdnX⟩ := Cond.laysAt hfound hk hffS (a (.lays Jvm.Bundle.nN Jvm.Bundle.nN "extendedMessageState" "I") (by simp [Jvm.Bundle.npeArmAtoms, Jvm.Bundle.npeAtoms]))
  have hnX : N.fState.name = "extendedMessageState" := (State.fieldFound?_type hffS (t := .int) (by decide +kernel)).1
  obtain ⟨tyB, dB, hdB, hdnB⟩ := Cond.laysAt hfound hk hffB (a (.lays Jvm.Bundle.nN Jvm.Bundle.tN "backtrace" Jvm.Bundle.objD) (by simp [Jvm.Bundle.npeArmAtoms]))
  have bC := Cond.laysApart hdB hdC hdnB hdnC (by rw [hnB, Y.causeName]; decide)
  have bS := Cond.laysApart hdB hdS hdnB hdnS (by rw [hnB, Y.stackName]; decide)
  have bP := Cond.laysApart hdB hdP hdnB hdnP (by rw [hnB, Y.suppName]; decide)
  have bX := Cond.laysApart hdB hdX hdnB hdnX (by rw [hnB, hnX]; decide)
  have hskip : SkipFacts T e.platform s (fun u => u) u0 ((npeCell N.toNpeT (preparedCellV T.toThrowableT (freshCell P1.m.cls N.kN) T'.heap.size u0 sen) T'.cur).withEntry T'.cur) :=
    ⟨{ ci198 := ci198, i198 := i198, fBack := fB }, ⟨hk198, hg198, ha198, hsB⟩, by
      have := fresh_default (c := P1.m.cls) tyB
      rw [htB] at this
      simpa [npeCell, preparedCellV, Cell.setSlot, Cell.withEntry, Array.getElem?_setIfInBounds, bC, bS, bP, bX, bC.symm, bS.symm, bP.symm, bX.symm, defaultValue] using this, fun _ _ => rfl⟩
  have hAt : _root_.Jvm.At T' g.method c below := by rw [hg]; exact X.here
  obtain ⟨hbeyond, hfreeW⟩ := X.vmMayThrow hsize (.throwNew "java/lang/NullPointerException" none none) (fun f hf => by cases hf) rfl hRlocals
  have hfr' : T'.frames.length + ([PR, PE] : List PassC).length + 5 < (e.platform.stackLimits T'.me).1 := by
    have := X.framesAbove (n := 7) hRframes
    show T'.frames.length + 2 + 5 < _
    omega
  have hwd' : (stackUse (.java g :: T'.frames.tail)).2 + 13 * ([PR, PE] : List PassC).length + 68 ≤ (e.platform.stackLimits T'.me).2 := by
    have := X.stackAbove hsize (K := 13 * 2 + 68) (by omega)
    show _ + 13 * 2 + 68 ≤ _
    omega
  obtain ⟨vm', hW', stp⟩ := Steps.vmThrowsNpeColdByV p (s₀ := s) (S := T') (g := g) hAt hexec T L Z0 LZ N LN X.warmed (t := T'.cur) rfl P1 L1 [PR, PE] (fun P hP => by
      simp only [List.mem_cons, List.not_mem_nil, or_false] at hP
      rcases hP with rfl | rfl
      · exact LR
      · exact LEx) hlink1 ⟨hlinkR, hlinkE, trivial⟩ hfound hk hinit hordN hctor
    (Launch.admits_hotImplicitExceptions X.admits) hbeyond hfreeW (X.cellsAbove hRcells) (X.slotsAbove (by rw [hn]; exact hRslots))
    (Nn := fun u => u) heapOnly_id (fun _ _ => rfl) (fun _ => rfl) (fun u x y => setCell_twice _ _ _ _) (fun _ => Nat.le_refl _) (cN := ((npeCell N.toNpeT (preparedCellV T.toThrowableT (freshCell P1.m.cls N.kN) T'.heap.size u0 sen) T'.cur).withEntry T'.cur))
    hsel0 hcellS hknownS hu0 (by rw [fresh_default tyX, LN.stateInt]; rfl)
    (Cond.laysApart hdC hdX hdnC hdnX (by rw [Y.causeName, hnX]; decide)) (Cond.laysApart hdS hdX hdnS hdnX (by rw [Y.stackName, hnX]; decide)) (Cond.laysApart hdP hdX hdnP hdnX (by rw [Y.suppName, hnX]; decide))
    (Takes.of_laid hk hordN tyS (by rw [Y.stackType]; exact fits_refV_array _ u0)) (Takes.of_laid hk hordN tyX (by rw [LN.stateInt]; rfl)) (fun _ hu => hu) (fun _ hu => hu) rfl rfl rfl (by simp [npeCell, preparedCellV, Cell.setSlot, Cell.withEntry]) hskip (fun _ _ hA hW _ hroom _ hrest => L.nativeOff p htr hA hW hroom hrest) hselF hsen
    (Takes.of_laid hk hordN tyC (by rw [Y.causeType]; rfl)) (Takes.of_laid hk hordN tyP (by rw [Y.suppType]; exact fits_refV_object _ sen)) Y.objLocals rfl hfr' hwd'
  rw [npeBareV_eq T.toThrowableT N.toNpeT T'.heap.size u0 sen T'.cur rfl rfl] at stp
  have X2 := (X.pushed (freshCell P1.m.cls N.kN)).noted hW'
  have hsz : ((T'.pushCell (freshCell P1.m.cls N.kN)).setVm vm').heap.size = T'.heap.size + 1 := State.heap_size_pushCell _ _
  have ha : T'.heap.size < ((T'.pushCell (freshCell P1.m.cls N.kN)).setVm vm').heap.size := by rw [hsz]; omega
  have hcell : ((T'.pushCell (freshCell P1.m.cls N.kN)).setVm vm').heap[T'.heap.size]? = some (freshCell P1.m.cls N.kN) := State.heap_pushCell_size T' (freshCell P1.m.cls N.kN)
  have X3 := ((((X2.stored hcell T.fCause.slot (.ref T'.heap.size)).storedAgain ha T.fStack.slot u0.v).storedAgain ha T.fSupp.slot sen.v).storedAgain ha N.fState.slot (.int 1)).storedAgain ha T.fStack.slot u0.v
  have hs8 : (freshCell P1.m.cls N.kN).slots.size = 8 := by simp [hn]
  rw [hs8] at X3
  simp only [List.append_assoc, List.cons_append, List.nil_append] at X3
  refine ⟨_, _, X3, fun q hq => ?_, ?_, fun q hq => ?_, ⟨_, heapAt_setCell_self _ ha, hfound, rfl⟩, stp _ ?_⟩
  · simp only [List.mem_cons, List.not_mem_nil, or_false] at hq
    rcases hq with rfl | rfl | rfl | rfl | rfl <;> rfl
  · show (((T'.pushCell (freshCell P1.m.cls N.kN)).setVm vm').setCell _ _).heap.size = _
    have hz : ∀ (U : State) (a : Addr) (x : Cell), (U.setCell a x).heap.size = U.heap.size := fun U a x => by simp [State.setCell]
    rw [hz, hsz]
  · show (((T'.pushCell (freshCell P1.m.cls N.kN)).setVm vm').setCell _ _).heap[q]? = _
    rw [heapAt_setCell_ne _ (show T'.heap.size ≠ q by omega)]
    exact State.heap_pushCell_of_lt T' _ hq
  · obtain ⟨g₁, hfrM⟩ := X3.frames_eq
    rw [State.pushFrame, State.frames_setTop _ hfrM, State.setTop_of_frames _ hfrM, State.setFrames_setFrames, ← X.tail]
    exact Steps.refl _
end
