/-! soundness 45: a NullPointerException is made above a native method's frame -/
section
variable {Z : SS0} {D : DD} {p : Program} {l : Launch} {e : Env} {R : Room} {s : State} {m : MethodId} {args : Array Value} {below : List Frame} {meth : Method} {c : Code} {T' : State} {locs : List Loc} {cells slots : Nat}
set_option maxHeartbeats 4000000 in
theorem npe_ov (X : Stand p l e R s m args below meth c T' locs cells slots) (hexec : p.tables.exec = Jvm.exec) (htr : e.platform.stackTraces = false) (hB : Base Z D) (hW : Z.s.WarmedH s.vm) (hH : Hp Z s) (hHT : ∀ q, q < Z.s.heap.size → T'.heap[q]? = Z.s.heap[q]?)
    {g : JFrame} (hsize : g.locals.size = c.maxLocals) {nf : NFrame} (hnf : Frame.words (.native nf) = 0) (hRframes : 9 < R.frames) (hRlocals : 2 * g.monitorRoom + (g.stack.map fun v => v.category).sum + 10240 ≤ R.locals) (hRcells : cells + 1 ≤ R.cells) (hRslots : slots + 8 ≤ R.slots) :
    ∃ (U : State) (L1 : List Loc), Stand p l e R s m args below meth c U (locs ++ L1) (cells + 1) (slots + 8) ∧ (∀ q ∈ L1, q.base = T'.heap.size) ∧ U.heap.size = T'.heap.size + 1 ∧ (∀ q, q < T'.heap.size → U.heap[q]? = T'.heap[q]?) ∧
      (∃ cell : Cell, U.heap[T'.heap.size]? = some cell ∧ s.vm.findClass "java/lang/NullPointerException" = some cell.cls ∧ cell.vm = .none) ∧
      Steps p.tables e below (T'.setFrames (.throwNew "java/lang/NullPointerException" none none :: .native nf :: .java g :: below)) (U.setFrames (.throwing T'.heap.size :: .native nf :: .java g :: below)) := by
  have h : ∀ a ∈ Jvm.Bundle.npeArmAtoms 8, a.before args s = true := fun w hw => aw_at hB hW hH (aw_npe w hw)
  have howns : e.platform.frameOwnsMonitors = true := by rw [X.admits.platform]
  have hfin : e.platform.finalization = false := by rw [X.admits.platform]
  have hpl : e.platform.magicAccessors = ({} : Platform).magicAccessors := by rw [X.admits.platform]
  have hpl2 : e.platform.arrayCloneIsPublic = true := by rw [X.admits.platform]
  have a : ∀ x, x ∈ Jvm.Bundle.npeArmAtoms 8 → x.holds args s none s [] = true := fun x hx => h x hx
  obtain ⟨T, Z0, L, LZ, Y⟩ := ThrowableC.of_atoms (args := args) howns hfin hpl (fun x hx => h x (by simp [Jvm.Bundle.npeArmAtoms, hx]))
  obtain ⟨N, LN, hcN, hnNF, hordN, hffS⟩ := NpeC.of_atoms (args := args) hpl hpl2 L Y (fun x hx => h x (by simp [Jvm.Bundle.npeArmAtoms, hx]))
  obtain ⟨P1, L1, hP1m, hP1s⟩ := PassC.of_atoms (args := args) (s := s) hpl (X := Jvm.Bundle.nN) (Y := Jvm.Bundle.rN) (by decide) (by decide) LibCode.NullPointerException.Init0.at_0 LibCode.NullPointerException.Init0.at_1 LibCode.NullPointerException.Init0.at_4 (fun x hx => h x (by simp [Jvm.Bundle.npeArmAtoms, hx]))
  obtain ⟨PR, LR, hPRm, hPRs⟩ := PassC.of_atoms (args := args) (s := s) hpl (X := Jvm.Bundle.rN) (Y := Jvm.Bundle.eN) (by decide) (by decide) LibCode.RuntimeException.Init0.at_0 LibCode.RuntimeException.Init0.at_1 LibCode.RuntimeException.Init0.at_4 (fun x hx => h x (by simp [Jvm.Bundle.npeArmAtoms, hx]))
  obtain ⟨PE, LEx, hPEm, hPEs⟩ := PassC.of_atoms (args := args) (s := s) hpl (X := Jvm.Bundle.eN) (Y := Jvm.Bundle.tN) (by decide) (by decide) LibCode.Exception.Init0.at_0 LibCode.Exception.Init0.at_1 LibCode.Exception.Init0.at_4 (fun x hx => h x (by simp [Jvm.Bundle.npeArmAtoms, hx]))
  have hfound : s.vm.findClass Jvm.Bundle.nN = some P1.m.cls := findClass_of_methodNamed hP1m
  have ecls : N.cN = P1.m.cls := Option.some.inj (hcN.symm.trans hfound)
  have hk : s.vm.classes[P1.m.cls]? = some N.kN := by rw [← ecls]; exact LN.cls
  have hinit := Cond.initialized_spec hfound hk (a (.initialized Jvm.Bundle.nN) (by simp [Jvm.Bundle.npeArmAtoms]))
  have hctor : N.kN.findMethod "<init>" "()V" = some P1.m.idx := findMethod_of_methodNamed hP1m hk
  obtain ⟨c1, k1, hc1, hk1, -, -, -, hn⟩ := Cond.instantiable_spec (a (.instantiable Jvm.Bundle.nN 8) (by simp [Jvm.Bundle.npeArmAtoms]))
  cases Option.some.inj (hc1.symm.trans hfound)
  cases Option.some.inj (hk1.symm.trans hk)
  have hlink1 : P1.sup = PR.m := Option.some.inj (hP1s.symm.trans hPRm)
  have hlinkR : PR.sup = PE.m := Option.some.inj (hPRs.symm.trans hPEm)
  have hlinkE : PE.sup = Z0.m T.toThrowableT := Option.some.inj (hPEs.symm.trans Y.init0)
  have hsel0 : selectMethod e.platform s.vm P1.m.cls T.fill0 = .method T.fill0 := by
    obtain ⟨c2, r2, m2, q1, q2, q3, q4, -⟩ := Cond.selects_spec (a (.selects Jvm.Bundle.nN Jvm.Bundle.tFill0 Jvm.Bundle.tFill0) (by simp [Jvm.Bundle.npeArmAtoms]))
    cases Option.some.inj (q1.symm.trans hfound)
    cases Option.some.inj (q2.symm.trans (State.methodFound?_of_named Y.fill0 (by decide)))
    cases Option.some.inj (q3.symm.trans Y.fill0)
    rw [Launch.admits_selectMethod X.admits]; exact q4
  have hselF : selectMethod e.platform s.vm P1.m.cls T.fill = .method N.fill := by
    obtain ⟨c2, r2, m2, q1, q2, q3, q4, -⟩ := Cond.selects_spec (a (.selects Jvm.Bundle.nN Jvm.Bundle.tFill Jvm.Bundle.nFill) (by simp [Jvm.Bundle.npeArmAtoms]))
    cases Option.some.inj (q1.symm.trans hfound)
    cases Option.some.inj (q2.symm.trans (State.methodFound?_of_named Y.fill (by decide)))
    cases Option.some.inj (q3.symm.trans hnNF)
    rw [Launch.admits_selectMethod X.admits]; exact q4
  obtain ⟨cellS0, hcS0, hiss⟩ := Y.statics
  have hold := aS_old hB hW L Y
  have hcellS : T'.heap[T.aS]? = some cellS0 := by rw [hHT _ hold, ← hH _ hold]; exact hcS0
  obtain ⟨u0, hu0⟩ := Cond.staticRefV Y.unassigned L.unassignedStatic L.statics hcS0 hiss (a (.isRef (.static Jvm.Bundle.tN "UNASSIGNED_STACK" Jvm.Bundle.steD)) (by simp [Jvm.Bundle.npeArmAtoms]))
  obtain ⟨sen, hsen⟩ := Cond.staticRefV Y.sentinel L.sentinelStatic L.statics hcS0 hiss (a (.isRef (.static Jvm.Bundle.tN "SUPPRESSED_SENTINEL" Jvm.Bundle.listD)) (by simp [Jvm.Bundle.npeArmAtoms]))
  obtain ⟨ci198, i198, fB, hk198, hg198, ha198, hsB, -, hnB, htB, hffB⟩ := Cond.ownField (t := .object "java/lang/Object") Y.found L.cls (by decide +kernel) (a (.fieldLink Jvm.Bundle.tN 198 Jvm.Bundle.tN "backtrace" Jvm.Bundle.objD) (by simp [Jvm.Bundle.npeArmAtoms])) (a (.lays Jvm.Bundle.tN Jvm.Bundle.tN "backtrace" Jvm.Bundle.objD) (by simp [Jvm.Bundle.npeArmAtoms])) e.platform hpl
  have hknownS : cellS0.vm ≠ .unknown := by
    intro hu
    rw [show cellS0.vm = .unknown from hu] at hiss
    cases hiss
  obtain ⟨tyC, dC, hdC, hdnC⟩ := Cond.laysAt hfound hk Y.cause (a (.lays Jvm.Bundle.nN Jvm.Bundle.tN "cause" "Ljava/lang/Throwable;") (by simp [Jvm.Bundle.npeArmAtoms]))
  obtain ⟨tyS, dS, hdS, hdnS⟩ := Cond.laysAt hfound hk Y.stack (a (.lays Jvm.Bundle.nN Jvm.Bundle.tN "stackTrace" Jvm.Bundle.steD) (by simp [Jvm.Bundle.npeArmAtoms]))
  obtain ⟨tyP, dP, hdP, hdnP⟩ := Cond.laysAt hfound hk Y.supp (a (.lays Jvm.Bundle.nN Jvm.Bundle.tN "suppressedExceptions" Jvm.Bundle.listD) (by simp [Jvm.Bundle.npeArmAtoms]))
  obtain ⟨tyX, dX, hdX, hdnX⟩ := Cond.laysAt hfound hk hffS (a (.lays Jvm.Bundle.nN Jvm.Bundle.nN "extendedMessageState" "I") (by simp [Jvm.Bundle.npeArmAtoms, Jvm.Bundle.npeAtoms]))
  have hnX : N.fState.name = "extendedMessageState" := (State.fieldFound?_type hffS (t := .int) (by decide +kernel)).1
  obtain ⟨tyB, dB, hdB, hdnB⟩ := Cond.laysAt hfound hk hffB (a (.lays Jvm.Bundle.nN Jvm.Bundle.tN "backtrace" Jvm.Bundle.objD) (by simp [Jvm.Bundle.npeArmAtoms]))
  have bC := Cond.laysApart hdB hdC hdnB hdnC (by rw [hnB, Y.causeName]; decide)
  have bS := Cond.laysApart hdB hdS hdnB hdnS (by rw [hnB, Y.stackName]; decide)
  have bP := Cond.laysApart hdB hdP hdnB hdnP (by rw [hnB, Y.suppName]; decide)
  have bX := Cond.laysApart hdB hdX hdnB hdnX (by rw [hnB, hnX]; decide)
  have hskip : SkipFacts T e.platform s (fun u => u) u0 ((npeCell N.toNpeT (preparedCellV T.toThrowableT (freshCell P1.m.cls N.kN) T'.heap.size u0 sen) T'.cur).withEntry T'.cur) :=
    ⟨{ ci198 := ci198, i198 := i198, fBack := fB }, ⟨hk198, hg198, ha198, hsB⟩, by
      have := fresh_default (c := P1.m.cls) tyB
      rw [htB] at this
      simpa [npeCell, preparedCellV, Cell.setSlot, Cell.withEntry, Array.getElem?_setIfInBounds, bC, bS, bP, bX, bC.symm, bS.symm, bP.symm, bX.symm, defaultValue] using this, fun _ _ => rfl⟩
  obtain ⟨hbeyond, hfreeW, hst1, hst2⟩ := ov_may X hsize hnf (.throwNew "java/lang/NullPointerException" none none) (fun f hf => by cases hf) rfl hRlocals
  have hfr' : (Frame.native nf :: .java g :: below).length + ([PR, PE] : List PassC).length + 5 < (e.platform.stackLimits T'.me).1 := by
    have := hst2 8 hRframes
    show (Frame.native nf :: .java g :: below).length + 2 + 5 < _
    omega
  have hwd' : (stackUse (.native nf :: .java g :: below)).2 + 13 * ([PR, PE] : List PassC).length + 68 ≤ (e.platform.stackLimits T'.me).2 := by
    have := hst1 (13 * 2 + 68) (by decide)
    show _ + 13 * 2 + 68 ≤ _
    omega
  have hLs : ∀ P ∈ ([PR, PE] : List PassC), P.Links0 e.platform s := fun P hP => by
      simp only [List.mem_cons, List.not_mem_nil, or_false] at hP
      rcases hP with rfl | rfl
      · exact LR
      · exact LEx
  have hpas : PassesOn (Z0.m T.toThrowableT) (([PR, PE] : List PassC).map (·.toPassT)) := ⟨hlinkR, hlinkE, trivial⟩
  have hl1 : P1.sup = firstOf (Z0.m T.toThrowableT) (([PR, PE] : List PassC).map (·.toPassT)) := hlink1
  have hp8 : ([PR, PE] : List PassC).length = 2 := rfl
  generalize ([PR, PE] : List PassC) = Ps at hfr' hwd' hLs hpas hl1 hp8
  have hO : Ovr T' (.native nf :: .java g :: below) below := ov_of X [.native nf, .java g]
  generalize hbase : Frame.native nf :: .java g :: below = base at hO hfr' hwd' hbeyond hfreeW ⊢
  obtain ⟨kX', hk', he'⟩ := X.warmed.alike.2.2 _ _ hk
  have hty : kX'.instanceTypes = N.kN.instanceTypes := by rw [he']
  have hfresh : freshCell P1.m.cls kX' = (freshCell P1.m.cls N.kN) := by
    show ({ cls := P1.m.cls, slots := kX'.instanceTypes.map defaultValue, vm := .none } : Cell) = _
    rw [hty]
  have hltS : T.aS < T'.heap.size := (Array.getElem?_eq_some_iff.mp hcellS).1
  have hOW : Ovr (T'.pushCell (freshCell P1.m.cls N.kN)) base below := hO
  have hcW : (T'.pushCell (freshCell P1.m.cls N.kN)).heap[T.aS]? = some cellS0 := by rw [State.heap_pushCell_of_lt T' _ hltS]; exact hcellS
  have hcell0 : (T'.pushCell (freshCell P1.m.cls N.kN)).heap[T'.heap.size]? = some (freshCell P1.m.cls N.kN) := State.heap_pushCell_size T' (freshCell P1.m.cls N.kN)
  have hWw : s.WarmedH (T'.pushCell (freshCell P1.m.cls N.kN)).vm := X.warmed
  have hWc : (T'.pushCell (freshCell P1.m.cls N.kN)).cur = T'.cur := rfl
  have w7 : e.platform.stackLimits (T'.pushCell (freshCell P1.m.cls N.kN)).me = e.platform.stackLimits T'.me := rfl
  have hctr : ∃ vm', s.WarmedH vm' ∧ ∀ target, Steps p.tables e below ((((T'.pushCell (freshCell P1.m.cls N.kN)).setVm vm').setCell T'.heap.size ((((npeCell N.toNpeT (preparedCellV T.toThrowableT (freshCell P1.m.cls N.kN) T'.heap.size u0 sen) T'.cur).withEntry T'.cur)).setSlot T.fStack.slot u0.v).left.left).setFrames (.throwing T'.heap.size :: base)) target →
      Steps p.tables e below (doInvoke e ((T'.pushCell (freshCell P1.m.cls N.kN)).setFrames (.thenThrow T'.heap.size :: base)) [] P1.m #[.ref T'.heap.size]).1 target := by
    generalize T'.pushCell (freshCell P1.m.cls N.kN) = V at hOW hWc hWw hcW hcell0 w7 ⊢
    have hmV := hWw.methodAt L1.method
    obtain ⟨fN, hI, fI⟩ := ov_in hOW T'.heap.size (pass0J P1.m T'.heap.size 0 []) hmV L1.code (hWw.plainAt L1.plain)
    have hlimN : e.platform.stackLimits (V.setFrames (.thenThrow T'.heap.size :: base)).me = e.platform.stackLimits T'.me := by rw [State.stackLimits_setFrames]; exact w7
    have hroom := roomAbove (pl := e.platform) (u := V.setFrames (.thenThrow T'.heap.size :: base)) (vars := 1) (pushed := [.thenThrow T'.heap.size]) (base := base) (free := 13 * Ps.length + 68) fN hlimN
      (by simp only [List.length_cons, List.length_nil]; omega) (by omega) (by rw [stackUse_light _ _ (fun f hf => by cases hf) rfl, stackUse_nil]; show 0 + 1 + 11 ≤ _; omega)
    obtain ⟨vm1, hW1, st1⟩ := Steps.invokeInitCold (tb := p.tables) (s₀ := s) (f := pass0J P1.m T'.heap.size 1 [.ref T'.heap.size]) (args := []) (rest := []) (a := T'.heap.size) hI hexec L1.at1 hWw L1.links L1.right L1.notHandle L1.cls L1.file L1.pool
      L1.supClass L1.supMethod L1.supName L1.supStatic L1.supAbstract L1.supFound L1.supParams.symm rfl
    obtain ⟨-, hI1, fI1⟩ := ov_in (hOW.vm vm1) T'.heap.size (pass0J P1.m T'.heap.size 0 []) (hW1.methodAt L1.method) L1.code (hW1.plainAt (U := V.setVm vm1) L1.plain)
    have hXlim : e.platform.stackLimits (((V.setVm vm1).setFrames (.thenThrow T'.heap.size :: base)).pushFrame (.java (pass0J P1.m T'.heap.size 0 []))).me = e.platform.stackLimits T'.me := by
      rw [State.stackLimits_pushFrame, State.stackLimits_setFrames]
      exact w7
    obtain ⟨vm2, hW2, st2⟩ := Steps.initNpe0ColdByV p (V := ((V.setVm vm1).setFrames (.thenThrow T'.heap.size :: base)).pushFrame (.java (pass0J P1.m T'.heap.size 0 []))) (g := pass0J P1.m T'.heap.size 1 []) (c := P1.code) (self := T'.heap.size) hI1 hexec T L Z0 LZ N LN hW1 (t := T'.cur) hWc
      (Nn := fun u => u) heapOnly_id (fun _ _ => rfl) (fun _ => rfl) (fun u x y => setCell_twice _ _ _ _) (fun _ => Nat.le_refl _) (cell := freshCell P1.m.cls N.kN) (cN := ((npeCell N.toNpeT (preparedCellV T.toThrowableT (freshCell P1.m.cls N.kN) T'.heap.size u0 sen) T'.cur).withEntry T'.cur)) hcell0
      (fun k hk => by cases hk) (fun hk => by cases hk) rfl hk hsel0 hcW (Nat.ne_of_lt hltS) hknownS hu0 (by rw [fresh_default tyX, LN.stateInt]; rfl)
      (Cond.laysApart hdC hdX hdnC hdnX (by rw [Y.causeName, hnX]; decide)) (Cond.laysApart hdS hdX hdnS hdnX (by rw [Y.stackName, hnX]; decide)) (Cond.laysApart hdP hdX hdnP hdnX (by rw [Y.suppName, hnX]; decide))
      (Takes.of_laid hk hordN tyS (by rw [Y.stackType]; exact fits_refV_array _ u0)) (Takes.of_laid hk hordN tyX (by rw [LN.stateInt]; rfl)) (fun _ hu => hu) (fun _ hu => hu) rfl rfl rfl (by simp [npeCell, preparedCellV, Cell.setSlot, Cell.withEntry]) hskip (fun _ _ hA hW _ hroom _ hrest => L.nativeOff p htr hA hW hroom hrest) hselF hsen
      (Takes.of_laid hk hordN tyC (by rw [Y.causeType]; rfl)) (Takes.of_laid hk hordN tyP (by rw [Y.suppType]; exact fits_refV_object _ sen)) Y.objLocals
      Ps hLs hpas (ig := .invokespecial P1.index) (len := 3) [] hXlim (by rw [fI1]; simp only [List.length_cons]; omega)
      (by
        rw [fI1, List.tail_cons, stackUse_java, stackUse_light _ _ (fun f hf => by cases hf) rfl]
        show (stackUse base).2 + (1 + 11 + 2 * 0 + operandWords []) + 13 * Ps.length + 55 ≤ _
        simp only [operandWords, List.foldl_nil]
        omega) L1.at1
    refine ⟨vm2, hW2, fun target hrest => ?_⟩
    rw [(doInvoke_java (s := V.setFrames (.thenThrow T'.heap.size :: base)) (e := e) (acts := []) (args := #[.ref T'.heap.size]) (meth := P1.meth) (code := P1.code) hmV L1.code L1.locks (by rw [L1.locals]; exact hroom)).1, L1.locals]
    show Steps p.tables e below ((V.setFrames (.thenThrow T'.heap.size :: base)).pushFrame (.java (pass0J P1.m T'.heap.size 0 []))) target
    rw [← State.setTop_self (s := ((V.setFrames (.thenThrow T'.heap.size :: base)).pushFrame (.java (pass0J P1.m T'.heap.size 0 [])))) (State.topJava?_of_frames fI)]
    jvm_step hI [hexec, L1.at0, Value.isRef]
    refine st1 target ?_
    rw [hl1]
    refine st2 target ?_
    exact ov_back (W := V.setVm vm2) (hOW.vm vm2) hexec (H := fun u => u.setCell T'.heap.size ((((npeCell N.toNpeT (preparedCellV T.toThrowableT (freshCell P1.m.cls N.kN) T'.heap.size u0 sen) T'.cur).withEntry T'.cur)).setSlot T.fStack.slot u0.v).left.left) (heapOnly_id.thenSetCell _ _) T'.heap.size (J1 := pass0J P1.m T'.heap.size 4 []) (hW2.methodAt L1.method) L1.code (hW2.plainAt (U := V.setVm vm2) L1.plain) L1.locks rfl rfl rfl L1.at4 hrest
  obtain ⟨vm', hW', stc⟩ := hctr
  have stp : ∀ target, Steps p.tables e below ((((T'.pushCell (freshCell P1.m.cls N.kN)).setVm vm').setCell T'.heap.size ((((npeCell N.toNpeT (preparedCellV T.toThrowableT (freshCell P1.m.cls N.kN) T'.heap.size u0 sen) T'.cur).withEntry T'.cur)).setSlot T.fStack.slot u0.v).left.left).setFrames (.throwing T'.heap.size :: base)) target → Steps p.tables e below (T'.setFrames (.throwNew "java/lang/NullPointerException" none none :: base)) target := by
    intro target hrest
    obtain ⟨⟨h1, h2, h3⟩, h4, mid, h5⟩ := hO
    have hf0 : (T'.setFrames (.throwNew "java/lang/NullPointerException" none none :: base)).frames = .throwNew "java/lang/NullPointerException" none none :: base := State.frames_setFrames _ h4
    have hsl : T'.slotsUsed + kX'.instanceTypes.size ≤ e.platform.maxSlots := by
      rw [hty, hn]
      exact X.slotsAbove hRslots
    refine Steps.head ⟨h1, by simpa using h2, by simpa using h3⟩ ⟨.throwNew "java/lang/NullPointerException" none none :: mid, by rw [hf0, h5]; rfl, by simp, by simp⟩ ?_
    rw [stepThread_throwNew hf0, stepThrowNew_plain (s := T'.setFrames (.throwNew "java/lang/NullPointerException" none none :: base)) (c := P1.m.cls) (k := kX') (i := P1.m.idx) (by decide) (by decide) (by show T'.vm.findClass _ = _; rw [X.warmed.alike.findClass]; exact hfound) hk' (by rw [he']; exact hinit) (by rw [he']; exact hordN)
      (Launch.admits_hotImplicitExceptions X.admits) hbeyond hfreeW (by rw [he']; exact hctor) (X.cellsAbove hRcells) hsl]
    have hN : ((T'.setFrames (.throwNew "java/lang/NullPointerException" none none :: base)).pushCell (freshCell P1.m.cls kX')).setFrames (.thenThrow ((T'.setFrames (.throwNew "java/lang/NullPointerException" none none :: base)).heap.size) :: base) = (T'.pushCell (freshCell P1.m.cls N.kN)).setFrames (.thenThrow T'.heap.size :: base) := by
      rw [State.pushCell_setFrames, State.setFrames_setFrames, hfresh]
      rfl
    rw [hN]
    exact stc target hrest
  rw [npeBareV_eq T.toThrowableT N.toNpeT T'.heap.size u0 sen T'.cur rfl rfl] at stp
  have X2 := (X.pushed (freshCell P1.m.cls N.kN)).noted hW'
  have hsz : ((T'.pushCell (freshCell P1.m.cls N.kN)).setVm vm').heap.size = T'.heap.size + 1 := State.heap_size_pushCell _ _
  have ha : T'.heap.size < ((T'.pushCell (freshCell P1.m.cls N.kN)).setVm vm').heap.size := by rw [hsz]; omega
  have hcell : ((T'.pushCell (freshCell P1.m.cls N.kN)).setVm vm').heap[T'.heap.size]? = some (freshCell P1.m.cls N.kN) := State.heap_pushCell_size T' (freshCell P1.m.cls N.kN)
  have X3 := ((((X2.stored hcell T.fCause.slot (.ref T'.heap.size)).storedAgain ha T.fStack.slot u0.v).storedAgain ha T.fSupp.slot sen.v).storedAgain ha N.fState.slot (.int 1)).storedAgain ha T.fStack.slot u0.v
  have hs8 : (freshCell P1.m.cls N.kN).slots.size = 8 := by simp [hn]
  rw [hs8] at X3
  simp only [List.append_assoc, List.cons_append, List.nil_append] at X3
  refine ⟨_, _, X3, fun q hq => ?_, ?_, fun q hq => ?_, ⟨_, heapAt_setCell_self _ ha, hfound, rfl⟩, stp _ ?_⟩
  · simp only [List.mem_cons, List.not_mem_nil, or_false] at hq
    rcases hq with rfl | rfl | rfl | rfl | rfl <;> rfl
  · show (((T'.pushCell (freshCell P1.m.cls N.kN)).setVm vm').setCell _ _).heap.size = _
    have hz : ∀ (U : State) (a : Addr) (x : Cell), (U.setCell a x).heap.size = U.heap.size := fun U a x => by simp [State.setCell]
    rw [hz, hsz]
  · show (((T'.pushCell (freshCell P1.m.cls N.kN)).setVm vm').setCell _ _).heap[q]? = _
    rw [heapAt_setCell_ne _ (show T'.heap.size ≠ q by omega)]
    exact State.heap_pushCell_of_lt T' _ hq
  · exact Steps.refl _
end
