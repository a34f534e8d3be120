/-! soundness 44: an exception with a message is made above a native method's frame -/
section
variable {Z : SS0} {D : DD} {p : Program} {l : Launch} {e : Env} {R : Room} {s : State} {m : MethodId} {args : Array Value} {below : List Frame} {meth : Method} {c : Code} {T' : State} {locs : List Loc} {cells slots : Nat}
theorem ov_of (X : Stand p l e R s m args below meth c T' locs cells slots) (mid : List Frame) : Ovr T' (mid ++ below) below := by
  obtain ⟨g₀, hfr⟩ := X.frames_eq
  exact ⟨⟨X.here.running, X.here.runnable, X.here.alone⟩, State.cur_lt_of_frames hfr, mid, rfl⟩
theorem ov_may (X : Stand p l e R s m args below meth c T' locs cells slots) {g : JFrame} (hsize : g.locals.size = c.maxLocals) {nf : NFrame} (hnf : Frame.words (.native nf) = 0) (note : Frame) (hnote : ∀ f, note ≠ .java f) (hw : note.words = 0) (hK : 2 * g.monitorRoom + (g.stack.map fun v => v.category).sum + 10240 ≤ R.locals) :
    e.platform.stackBeyond ((((T'.setFrames (note :: .native nf :: .java g :: below)).threads[T'.cur]?).map (·.stackBytes)).getD 0) (T'.setFrames (note :: .native nf :: .java g :: below)).frames = false ∧ e.platform.vmThrowRoom ≤ e.platform.stackFree ((((T'.setFrames (note :: .native nf :: .java g :: below)).threads[T'.cur]?).map (·.stackBytes)).getD 0) (T'.setFrames (note :: .native nf :: .java g :: below)).frames ∧
    (∀ K, K ≤ 10240 → (stackUse (.native nf :: .java g :: below)).2 + K ≤ (e.platform.stackLimits T'.me).2) ∧ (∀ n, n + 1 < R.frames → (Frame.native nf :: .java g :: below).length + n < (e.platform.stackLimits T'.me).1) := by
  obtain ⟨g₀, hfr⟩ := X.frames_eq
  have hcur : T'.cur < T'.threads.size := State.cur_lt_of_frames hfr
  have hA := X.stackAbove hsize hK
  rw [X.tail] at hA
  have hB : (stackUse (.native nf :: .java g :: below)).2 + 10240 ≤ (e.platform.stackLimits T'.me).2 := by
    rw [stackUse_light (.native nf) _ (fun f hf => by cases hf) hnf]
    exact hA
  have hb : ((((T'.setFrames (note :: .native nf :: .java g :: below)).threads[T'.cur]?).map (·.stackBytes)).getD 0) = T'.me.stackBytes := by
    rw [← State.stackBytes_setFrames T' (note :: .native nf :: .java g :: below)]
    exact State.stackBytes_me (T'.setFrames (note :: .native nf :: .java g :: below))
  have hlimit : (e.platform.stackLimits T'.me).2 = (e.platform.limitsFor T'.me.stackBytes).2 := rfl
  rw [hb, State.frames_setFrames _ hcur, Launch.admits_vmThrowRoom X.admits]
  unfold Platform.stackBeyond Platform.stackFree
  rw [stackUse_light _ _ hnote hw]
  refine ⟨decide_eq_false (by omega), by omega, fun K hK => by omega, fun n hn => ?_⟩
  have := X.framesAbove hn
  rw [hfr] at this
  simp only [List.length_cons] at this ⊢
  omega
set_option maxHeartbeats 4000000 in
theorem msg_ov {t : Nat} {text : String} (X : Stand p l e R s m args below meth c T' locs cells slots) (hexec : p.tables.exec = Jvm.exec) (htr : e.platform.stackTraces = false) (hB : Base Z D) (hW : Z.s.WarmedH s.vm) (hH : Hp Z s) (hHT : ∀ q, q < Z.s.heap.size → T'.heap[q]? = Z.s.heap[q]?) (ht : t ∈ msgT)
    (htext : (text == notModelled) = false) (htb : (stringBytes (stringToUtf16 text)).size ≤ 10000)
    {g : JFrame} (hsize : g.locals.size = c.maxLocals) {nf : NFrame} (hnf : Frame.words (.native nf) = 0) (hRframes : 9 < R.frames) (hRlocals : 2 * g.monitorRoom + (g.stack.map fun v => v.category).sum + 10240 ≤ R.locals) (hRcells : cells + 3 ≤ R.cells) (hRslots : slots + 10010 ≤ R.slots) :
    ∃ (U : State) (L1 : List Loc), Stand p l e R s m args below meth c U (locs ++ L1) (cells + 3) (slots + 10010) ∧ (∀ q ∈ L1, q.base = T'.heap.size + 2) ∧ U.heap.size = T'.heap.size + 3 ∧ (∀ q, q < T'.heap.size → U.heap[q]? = T'.heap[q]?) ∧
      (∃ cell : Cell, U.heap[T'.heap.size + 2]? = some cell ∧ s.vm.findClass (cnm t) = some cell.cls ∧ cell.vm = .none ∧ cell.monitor.owner = none ∧ cell.monitor.count = 0 ∧ cell.slots.size = 6 ∧ ∀ i, SlotIs s "java/lang/Throwable" "backtrace" "Ljava/lang/Object;" i → cell.slots[i]? = some .null) ∧
      Steps p.tables e below (T'.setFrames (.throwNew (cnm t) (some text) none :: .native nf :: .java g :: below)) (U.setFrames (.throwing (T'.heap.size + 2) :: .native nf :: .java g :: below)) := by
  obtain ⟨haw, hcls, hnames, hsoe, hoom, hnl⟩ := msg_all ht
  generalize hnm : msgN t = names at haw hnames hnl
  generalize hcn : cnm t = cls at haw hcls hsoe hoom ⊢
  have h : ∀ a ∈ Jvm.Bundle.messageArmAtoms cls names, a.before args s = true := fun w hw => aw_at hB hW hH (haw w hw)
  have howns : e.platform.frameOwnsMonitors = true := by rw [X.admits.platform]
  have hfin : e.platform.finalization = false := by rw [X.admits.platform]
  have hpl : e.platform.magicAccessors = ({} : Platform).magicAccessors := by rw [X.admits.platform]
  have a : ∀ x, x ∈ Jvm.Bundle.messageArmAtoms cls names → x.holds args s none s [] = true := fun x hx => h x hx
  obtain ⟨T, Z0, L, -, Y⟩ := ThrowableC.of_atoms (args := args) howns hfin hpl (fun x hx => h x (by simp [Jvm.Bundle.messageArmAtoms, hx]))
  obtain ⟨Z1, M, LZ, LM, hnZ⟩ := Init0T.ofS_atoms (args := args) hpl L Y (fun x hx => h x (by simp [Jvm.Bundle.messageArmAtoms, hx]))
  obtain ⟨P1, Ps, hlen, L1, hL, hP1m, hlink1, hlink⟩ := Jvm.Bundle.chainS (args := args) hpl hnZ names cls hcls hnames (fun x hx => h x (by simp [Jvm.Bundle.messageArmAtoms, hx]))
  obtain ⟨Zs, LZs, hn4, hfitv, hfitc⟩ := StringT.of_atoms (args := args) (fun x hx => h x (by simp [Jvm.Bundle.messageArmAtoms, hx]))
  have hfound : s.vm.findClass cls = some P1.m.cls := findClass_of_methodNamed hP1m
  obtain ⟨c1, kX, hc1, hk, hord, -, -, hn6⟩ := Cond.instantiable_spec (a (.instantiable cls 6) (by simp [Jvm.Bundle.messageArmAtoms]))
  cases Option.some.inj (hc1.symm.trans hfound)
  have hinit := Cond.initialized_spec hfound hk (a (.initialized cls) (by simp [Jvm.Bundle.messageArmAtoms]))
  have hctor : kX.findMethod "<init>" "(Ljava/lang/String;)V" = some P1.m.idx := findMethod_of_methodNamed hP1m hk
  have hsel0 : selectMethod e.platform s.vm P1.m.cls T.fill0 = .method T.fill0 := by
    obtain ⟨c2, r2, m2, q1, q2, q3, q4, -⟩ := Cond.selects_spec (a (.selects cls Jvm.Bundle.tFill0 Jvm.Bundle.tFill0) (by simp [Jvm.Bundle.messageArmAtoms]))
    cases Option.some.inj (q1.symm.trans hfound)
    cases Option.some.inj (q2.symm.trans (State.methodFound?_of_named Y.fill0 (by decide)))
    cases Option.some.inj (q3.symm.trans Y.fill0)
    rw [Launch.admits_selectMethod X.admits]; exact q4
  have hselF : selectMethod e.platform s.vm P1.m.cls T.fill = .method T.fill := by
    obtain ⟨c2, r2, m2, q1, q2, q3, q4, -⟩ := Cond.selects_spec (a (.selects cls Jvm.Bundle.tFill Jvm.Bundle.tFill) (by simp [Jvm.Bundle.messageArmAtoms]))
    cases Option.some.inj (q1.symm.trans hfound)
    cases Option.some.inj (q2.symm.trans (State.methodFound?_of_named Y.fill (by decide)))
    cases Option.some.inj (q3.symm.trans Y.fill)
    rw [Launch.admits_selectMethod X.admits]; exact q4
  obtain ⟨cellS0, hcS0, hiss⟩ := Y.statics
  have hold := aS_old hB hW L Y
  have hcellS : T'.heap[T.aS]? = some cellS0 := by rw [hHT _ hold, ← hH _ hold]; exact hcS0
  obtain ⟨u0, hu0⟩ := Cond.staticRefV Y.unassigned L.unassignedStatic L.statics hcS0 hiss (a (.isRef (.static Jvm.Bundle.tN "UNASSIGNED_STACK" Jvm.Bundle.steD)) (by simp [Jvm.Bundle.messageArmAtoms]))
  obtain ⟨sen, hsen⟩ := Cond.staticRefV Y.sentinel L.sentinelStatic L.statics hcS0 hiss (a (.isRef (.static Jvm.Bundle.tN "SUPPRESSED_SENTINEL" Jvm.Bundle.listD)) (by simp [Jvm.Bundle.messageArmAtoms]))
  obtain ⟨ci198, i198, fB, hk198, hg198, ha198, hsB, -, hnB, htB, hffB⟩ := Cond.ownField (t := .object "java/lang/Object") Y.found L.cls (by decide +kernel) (a (.fieldLink Jvm.Bundle.tN 198 Jvm.Bundle.tN "backtrace" "Ljava/lang/Object;") (by simp [Jvm.Bundle.messageArmAtoms])) (a (.lays Jvm.Bundle.tN Jvm.Bundle.tN "backtrace" "Ljava/lang/Object;") (by simp [Jvm.Bundle.messageArmAtoms])) e.platform hpl
  have hknownS : cellS0.vm ≠ .unknown := by
    intro hu
    rw [show cellS0.vm = .unknown from hu] at hiss
    cases hiss
  obtain ⟨iM, hffM⟩ := Y.msg
  obtain ⟨tyC, dC, hdC, hdnC⟩ := Cond.laysAt hfound hk Y.cause (a (.lays cls Jvm.Bundle.tN "cause" "Ljava/lang/Throwable;") (by simp [Jvm.Bundle.messageArmAtoms]))
  obtain ⟨tyS, dS, hdS, hdnS⟩ := Cond.laysAt hfound hk Y.stack (a (.lays cls Jvm.Bundle.tN "stackTrace" Jvm.Bundle.steD) (by simp [Jvm.Bundle.messageArmAtoms]))
  obtain ⟨tyP, dP, hdP, hdnP⟩ := Cond.laysAt hfound hk Y.supp (a (.lays cls Jvm.Bundle.tN "suppressedExceptions" Jvm.Bundle.listD) (by simp [Jvm.Bundle.messageArmAtoms]))
  obtain ⟨tyM, dM, hdM, hdnM⟩ := Cond.laysAt hfound hk hffM (a (.lays cls Jvm.Bundle.tN "detailMessage" "Ljava/lang/String;") (by simp [Jvm.Bundle.messageArmAtoms]))
  obtain ⟨tyB, dB, hdB, hdnB⟩ := Cond.laysAt hfound hk hffB (a (.lays cls Jvm.Bundle.tN "backtrace" "Ljava/lang/Object;") (by simp [Jvm.Bundle.messageArmAtoms]))
  have hnM : T.fMsg.name = "detailMessage" := (State.fieldFound?_type hffM (t := .object "java/lang/String") (by decide +kernel)).1
  have bC := Cond.laysApart hdB hdC hdnB hdnC (by rw [hnB, Y.causeName]; decide)
  have bS := Cond.laysApart hdB hdS hdnB hdnS (by rw [hnB, Y.stackName]; decide)
  have bP := Cond.laysApart hdB hdP hdnB hdnP (by rw [hnB, Y.suppName]; decide)
  have bM := Cond.laysApart hdB hdM hdnB hdnM (by rw [hnB, hnM]; decide)
  have hnull := fresh_default (c := P1.m.cls) tyB
  rw [htB] at hnull
  have hskip : SkipFacts T e.platform s (fun u => u) u0 ((preparedCellV T.toThrowableT (freshCell P1.m.cls kX) (T'.heap.size + 2) u0 sen).withEntry T'.cur) :=
    ⟨{ ci198 := ci198, i198 := i198, fBack := fB }, ⟨hk198, hg198, ha198, hsB⟩, by
      simpa [preparedCellV, Cell.setSlot, Cell.withEntry, Array.getElem?_setIfInBounds, bC, bS, bP, bC.symm, bS.symm, bP.symm, defaultValue] using hnull, fun _ _ => rfl⟩
  obtain ⟨hbeyond, hfreeW, hst1, hst2⟩ := ov_may X hsize hnf (.throwNew cls (some text) none) (fun f hf => by cases hf) rfl hRlocals
  have hfr' : (Frame.native nf :: .java g :: below).length + Ps.length + 4 < (e.platform.stackLimits T'.me).1 := by
    have := hst2 8 hRframes
    omega
  have hwd' : (stackUse (.native nf :: .java g :: below)).2 + 13 * Ps.length + 55 ≤ (e.platform.stackLimits T'.me).2 := by
    have := hst1 (13 * 3 + 55) (by decide)
    omega
  have hlimit : ¬ (stringBytes (stringToUtf16 text)).size > e.platform.arrayLengthLimit := by rw [Launch.admits_arrayLengthLimit X.admits]; omega
  have hheap : ¬ (stringBytes (stringToUtf16 text)).size * componentBytes .byte > e.platform.maxHeapBytes := by
    rw [Launch.admits_maxHeapBytes X.admits]
    show ¬ _ * 1 > _
    omega
  have hslots : T'.slotsUsed + (stringBytes (stringToUtf16 text)).size + Zs.kS.instanceTypes.size + kX.instanceTypes.size ≤ e.platform.maxSlots := by
    have := X.slotsAbove (n := 10010) hRslots
    omega
  have hO : Ovr T' (.native nf :: .java g :: below) below := ov_of X [.native nf, .java g]
  generalize hbase : Frame.native nf :: .java g :: below = base at hO hfr' hwd' hbeyond hfreeW ⊢
  -- the machine's tables at this state
  obtain ⟨kX', hk', he'⟩ := X.warmed.alike.2.2 _ _ hk
  have hty : kX'.instanceTypes = kX.instanceTypes := by rw [he']
  have hfresh : freshCell P1.m.cls kX' = (freshCell P1.m.cls kX) := by
    show ({ cls := P1.m.cls, slots := kX'.instanceTypes.map defaultValue, vm := .none } : Cell) = _
    rw [hty]
  obtain ⟨kS', kB', LZ', htyS⟩ := LZs.warmer X.warmed.alike
  have hsame : withThrown T' { Zs with kS := kS', kB := kB' } text P1.m.cls kX' = (withThrown T' Zs text P1.m.cls kX) := by
    rw [← withThrown_warmer T' Zs (kB' := kB') htyS text P1.m.cls kX]
    show (withString T' _ _ _ _ _ _).pushCell (freshCell P1.m.cls kX') = (withString T' _ _ _ _ _ _).pushCell (freshCell P1.m.cls kX)
    rw [hfresh]
  have hfs : T'.fitsSlot = s.fitsSlot := (show T'.fitsSlot = (s.setVm T'.vm).fitsSlot from rfl).trans (State.fitsSlot_setVm X.warmed.alike)
  obtain ⟨w1, -, w3, w4, w5, -, w7⟩ := withThrown_facts e.platform T' Zs text P1.m.cls kX
  have hltS : T.aS < T'.heap.size := (Array.getElem?_eq_some_iff.mp hcellS).1
  have hOW : Ovr (withThrown T' Zs text P1.m.cls kX) base below := by
    unfold withThrown withString
    exact hO
  have hWc : (withThrown T' Zs text P1.m.cls kX).cur = T'.cur := by simp [withThrown, withString]
  have hWw : s.WarmedH (withThrown T' Zs text P1.m.cls kX).vm := by rw [w1]; exact X.warmed
  have hcW : (withThrown T' Zs text P1.m.cls kX).heap[T.aS]? = some cellS0 := (w5 _ hltS).trans hcellS
  -- the constructor
  have hctr : ∃ vm', s.WarmedH vm' ∧ ∀ target, Steps p.tables e below ((((withThrown T' Zs text P1.m.cls kX).setVm vm').setCell (T'.heap.size + 2) (((((preparedCellV T.toThrowableT (freshCell P1.m.cls kX) (T'.heap.size + 2) u0 sen).withEntry T'.cur)).setSlot T.fStack.slot u0.v).left.setSlot T.fMsg.slot (.ref (T'.heap.size + 1)))).setFrames (.throwing (T'.heap.size + 2) :: base)) target →
      Steps p.tables e below (doInvoke e ((withThrown T' Zs text P1.m.cls kX).setFrames (.thenThrow (T'.heap.size + 2) :: base)) [] P1.m #[.ref (T'.heap.size + 2), .ref (T'.heap.size + 1)]).1 target := by
    generalize withThrown T' Zs text P1.m.cls kX = V at hOW hWc hWw hcW w4 w7 ⊢
    have hmV := hWw.methodAt L1.method
    obtain ⟨fN, hI, fI⟩ := ov_in hOW (T'.heap.size + 2) (passJ P1.m (T'.heap.size + 2) (.ref (T'.heap.size + 1)) 0 []) hmV L1.code (hWw.plainAt L1.plain)
    have hlimN : e.platform.stackLimits (V.setFrames (.thenThrow (T'.heap.size + 2) :: base)).me = e.platform.stackLimits T'.me := by rw [State.stackLimits_setFrames]; exact w7
    have hroom := roomAbove (pl := e.platform) (u := V.setFrames (.thenThrow (T'.heap.size + 2) :: base)) (vars := 2) (pushed := [.thenThrow (T'.heap.size + 2)]) (base := base) (free := 13 * Ps.length + 55) fN hlimN
      (by simp only [List.length_cons, List.length_nil]; omega) (by omega) (by rw [stackUse_light _ _ (fun f hf => by cases hf) rfl, stackUse_nil]; show 0 + 2 + 11 ≤ _; omega)
    obtain ⟨vm1, hW1, st1⟩ := Steps.invokeInitCold (tb := p.tables) (s₀ := s) (f := passJ P1.m (T'.heap.size + 2) (.ref (T'.heap.size + 1)) 2 [.ref (T'.heap.size + 1), .ref (T'.heap.size + 2)]) (args := [.ref (T'.heap.size + 1)]) (rest := []) (a := T'.heap.size + 2) hI hexec L1.at2 hWw L1.links L1.right L1.notHandle L1.cls L1.file L1.pool
      L1.supClass L1.supMethod L1.supName L1.supStatic L1.supAbstract L1.supFound L1.supParams.symm rfl
    obtain ⟨-, hI1, fI1⟩ := ov_in (hOW.vm vm1) (T'.heap.size + 2) (passJ P1.m (T'.heap.size + 2) (.ref (T'.heap.size + 1)) 0 []) (hW1.methodAt L1.method) L1.code (hW1.plainAt (U := V.setVm vm1) L1.plain)
    have hXlim : e.platform.stackLimits (((V.setVm vm1).setFrames (.thenThrow (T'.heap.size + 2) :: base)).pushFrame (.java (passJ P1.m (T'.heap.size + 2) (.ref (T'.heap.size + 1)) 0 []))).me = e.platform.stackLimits T'.me := by
      rw [State.stackLimits_pushFrame, State.stackLimits_setFrames]
      exact w7
    obtain ⟨vm2, hW2, st2⟩ := Steps.initThrowableSColdByV p (V := ((V.setVm vm1).setFrames (.thenThrow (T'.heap.size + 2) :: base)).pushFrame (.java (passJ P1.m (T'.heap.size + 2) (.ref (T'.heap.size + 1)) 0 []))) (g := passJ P1.m (T'.heap.size + 2) (.ref (T'.heap.size + 1)) 2 []) (c := P1.code) (self := T'.heap.size + 2) hI1 hexec T L Z1 LZ M LM hW1 (t := T'.cur) hWc
      (Nn := fun u => u) heapOnly_id (fun _ _ => rfl) (fun _ => rfl) (fun u x y => setCell_twice _ _ _ _) (fun _ => Nat.le_refl _) (msg := .ref (T'.heap.size + 1)) rfl (cell := freshCell P1.m.cls kX) (cN := ((preparedCellV T.toThrowableT (freshCell P1.m.cls kX) (T'.heap.size + 2) u0 sen).withEntry T'.cur)) w4
      (fun k hk => by cases hk) (fun hk => by cases hk) rfl hsel0 hcW (Nat.ne_of_lt (Nat.lt_of_lt_of_le hltS (Nat.le_add_right _ 2))) hknownS hu0
      (Takes.of_laid hk hord tyS (by rw [Y.stackType]; exact fits_refV_array _ u0)) (fun _ hu => hu) (fun _ hu => hu) rfl rfl rfl (by simp [preparedCellV, Cell.setSlot, Cell.withEntry]) hskip (fun _ _ hA hW _ hroom _ hrest => L.nativeOff p htr hA hW hroom hrest) hselF hsen
      (Takes.of_laid hk hord tyC (by rw [Y.causeType]; rfl)) (Takes.of_laid hk hord tyP (by rw [Y.suppType]; exact fits_refV_object _ sen)) (Takes.of_laid hk hord tyM (by rw [Y.msgType]; rfl)) Y.objLocals
      Ps hL hlink (ig := .invokespecial P1.index) (len := 3) [] hXlim (by rw [fI1]; simp only [List.length_cons]; omega)
      (by
        rw [fI1, List.tail_cons, stackUse_java, stackUse_light _ _ (fun f hf => by cases hf) rfl]
        show (stackUse base).2 + (2 + 11 + 2 * 0 + operandWords []) + 13 * Ps.length + 42 ≤ _
        simp only [operandWords, List.foldl_nil]
        omega) L1.at2
    refine ⟨vm2, hW2, fun target hrest => ?_⟩
    rw [(doInvoke_java (s := V.setFrames (.thenThrow (T'.heap.size + 2) :: base)) (e := e) (acts := []) (args := #[.ref (T'.heap.size + 2), .ref (T'.heap.size + 1)]) (meth := P1.meth) (code := P1.code) hmV L1.code L1.locks (by rw [L1.locals]; exact hroom)).1, L1.locals]
    show Steps p.tables e below ((V.setFrames (.thenThrow (T'.heap.size + 2) :: base)).pushFrame (.java (passJ P1.m (T'.heap.size + 2) (.ref (T'.heap.size + 1)) 0 []))) target
    rw [← State.setTop_self (s := ((V.setFrames (.thenThrow (T'.heap.size + 2) :: base)).pushFrame (.java (passJ P1.m (T'.heap.size + 2) (.ref (T'.heap.size + 1)) 0 [])))) (State.topJava?_of_frames fI)]
    jvm_step hI [hexec, L1.at0, Value.isRef]
    jvm_step hI [hexec, L1.at1, Value.isRef]
    refine st1 target ?_
    rw [hlink1]
    refine st2 target ?_
    exact ov_back (W := V.setVm vm2) (hOW.vm vm2) hexec (H := fun u => u.setCell (T'.heap.size + 2) (((((preparedCellV T.toThrowableT (freshCell P1.m.cls kX) (T'.heap.size + 2) u0 sen).withEntry T'.cur)).setSlot T.fStack.slot u0.v).left.setSlot T.fMsg.slot (.ref (T'.heap.size + 1)))) (heapOnly_id.thenSetCell _ _) (T'.heap.size + 2) (J1 := passJ P1.m (T'.heap.size + 2) (.ref (T'.heap.size + 1)) 5 []) (hW2.methodAt L1.method) L1.code (hW2.plainAt (U := V.setVm vm2) L1.plain) L1.locks rfl rfl rfl L1.at5 hrest
  obtain ⟨vm', hW', stc⟩ := hctr
  have stp : ∀ target, Steps p.tables e below ((((withThrown T' Zs text P1.m.cls kX).setVm vm').setCell (T'.heap.size + 2) (((((preparedCellV T.toThrowableT (freshCell P1.m.cls kX) (T'.heap.size + 2) u0 sen).withEntry T'.cur)).setSlot T.fStack.slot u0.v).left.setSlot T.fMsg.slot (.ref (T'.heap.size + 1)))).setFrames (.throwing (T'.heap.size + 2) :: base)) target → Steps p.tables e below (T'.setFrames (.throwNew cls (some text) none :: base)) target := by
    intro target hrest
    obtain ⟨⟨h1, h2, h3⟩, h4, mid, h5⟩ := hO
    have hf1 : T'.fitsSlot Zs.cS .none Zs.fv.slot (.ref T'.heap.size) = true := by rw [hfs]; exact hfitv _
    have hf2 : T'.fitsSlot Zs.cS .none Zs.fc.slot (.int (stringCoder (stringToUtf16 text))) = true := by rw [hfs]; exact hfitc _
    have hf0 : (T'.setFrames (.throwNew cls (some text) none :: base)).frames = .throwNew cls (some text) none :: base := State.frames_setFrames _ h4
    refine Steps.head ⟨h1, by simpa using h2, by simpa using h3⟩ ⟨.throwNew cls (some text) none :: mid, by rw [hf0, h5]; rfl, by simp, by simp⟩ ?_
    rw [stepThread_throwNew hf0, stepThrowNew_message (s := T'.setFrames (.throwNew cls (some text) none :: base)) (c := P1.m.cls) (k := kX') (i := P1.m.idx) { Zs with kS := kS', kB := kB' } LZ' hsoe hoom (by show T'.vm.findClass cls = _; rw [X.warmed.alike.findClass]; exact hfound) hk' (by rw [he']; exact hinit) (by rw [he']; exact hord)
      (Launch.admits_hotImplicitExceptions X.admits) hbeyond hfreeW htext (by rw [he']; exact hctor) hlimit hheap (X.cellsAbove hRcells) (by show T'.slotsUsed + _ + kS'.instanceTypes.size + kX'.instanceTypes.size ≤ _; rw [htyS, hty]; exact hslots) hf1 hf2]
    have hN : (withThrown (T'.setFrames (.throwNew cls (some text) none :: base)) { Zs with kS := kS', kB := kB' } text P1.m.cls kX').setFrames (.thenThrow ((T'.setFrames (.throwNew cls (some text) none :: base)).heap.size + 2) :: base) = (withThrown T' Zs text P1.m.cls kX).setFrames (.thenThrow (T'.heap.size + 2) :: base) := by
      rw [withThrown_setFrames, State.setFrames_setFrames, hsame]
      rfl
    rw [hN]
    exact stc target hrest
  rw [plainBareV_eq T.toThrowableT (T'.heap.size + 2) u0 sen (.ref (T'.heap.size + 1)) T'.cur rfl rfl] at stp
  have X3 := ((X.pushed (bytesOf Zs.cB (stringToUtf16 text))).pushed (stringAt Zs.cS Zs.kS Zs.fv Zs.fc (stringToUtf16 text) T'.heap.size)).pushed (freshCell P1.m.cls kX)
  rw [← withString_eq] at X3
  have X4 := X3.noted hW'
  have ha : (T'.heap.size + 2) < ((withThrown T' Zs text P1.m.cls kX).setVm vm').heap.size := by show _ < (withThrown T' Zs text P1.m.cls kX).heap.size; rw [w3]; omega
  have hcell : ((withThrown T' Zs text P1.m.cls kX).setVm vm').heap[(T'.heap.size + 2)]? = some (freshCell P1.m.cls kX) := w4
  have X5 := ((((X4.stored hcell T.fCause.slot (.ref (T'.heap.size + 2))).storedAgain ha T.fStack.slot u0.v).storedAgain ha T.fSupp.slot sen.v).storedAgain ha T.fStack.slot u0.v).storedAgain ha T.fMsg.slot (.ref (T'.heap.size + 1))
  have b1 : (bytesOf Zs.cB (stringToUtf16 text)).slots.size = (stringBytes (stringToUtf16 text)).size := by
    rw [(Cell.writeAll_facts _ _).2.2]; simp [bytes0]
  have b2 : (stringAt Zs.cS Zs.kS Zs.fv Zs.fc (stringToUtf16 text) T'.heap.size).slots.size = 4 := by simp [string0, Cell.setSlot, hn4]
  have b3 : (freshCell P1.m.cls kX).slots.size = 6 := by simp [hn6]
  rw [b1, b2, b3] at X5
  simp only [List.append_assoc, List.cons_append, List.nil_append] at X5
  have X6 := stand_widen (k := cells + 3) (n := slots + 10010) X5 (by omega) (by omega)
  have hz : ∀ (U : State) (a : Addr) (x : Cell), (U.setCell a x).heap.size = U.heap.size := fun U a x => by simp [State.setCell]
  refine ⟨_, _, X6, fun q hq => ?_, ?_, fun q hq => ?_, ⟨_, heapAt_setCell_self _ ha, hfound, rfl, rfl, rfl, ?_, fun i hi => ?_⟩, stp _ ?_⟩
  · simp only [List.mem_cons, List.not_mem_nil, or_false] at hq
    rcases hq with rfl | rfl | rfl | rfl | rfl <;> rfl
  · rw [hz]
    show (withThrown T' Zs text P1.m.cls kX).heap.size = _
    rw [w3]
  · rw [heapAt_setCell_ne _ (show T'.heap.size + 2 ≠ q by omega)]
    show (withThrown T' Zs text P1.m.cls kX).heap[q]? = _
    unfold withThrown
    rw [withString_eq]
    have p1 : ∀ (U : State) (x : Cell) (q : Nat), q < U.heap.size → (U.pushCell x).heap[q]? = U.heap[q]? := fun U x q hq => State.heap_pushCell_of_lt U x hq
    have z1 : ∀ (U : State) (x : Cell), (U.pushCell x).heap.size = U.heap.size + 1 := fun U x => State.heap_size_pushCell _ _
    rw [p1 _ _ _ (by rw [z1, z1]; omega), p1 _ _ _ (by rw [z1]; omega), p1 _ _ _ hq]
  · simp [plainBareV, preparedCellV, Cell.setSlot, hn6]
  · obtain ⟨cf, kf, fi, fd, hff, rfl⟩ := hi
    cases hff.symm.trans hffB
    simpa [plainBareV, preparedCellV, Cell.setSlot, Array.getElem?_setIfInBounds, bC, bS, bP, bM, bC.symm, bS.symm, bP.symm, bM.symm, defaultValue] using hnull
  · exact Steps.refl _
end
