/-! soundness 32: an exception with a message -/
def msgN (t : Nat) : List String := if t = 22 then ["java/lang/IndexOutOfBoundsException", "java/lang/RuntimeException", "java/lang/Exception"] else ["java/lang/RuntimeException", "java/lang/Exception"]
def msgT : List Nat := [21, 22, 23, 24]
theorem msg_all {t : Nat} (h : t ∈ msgT) : (∀ w ∈ Jvm.Bundle.messageArmAtoms (cnm t) (msgN t), AW w) ∧ Jvm.Bundle.fit (cnm t) = true ∧ (∀ n ∈ msgN t, Jvm.Bundle.fit n = true) ∧ (cnm t == "java/lang/StackOverflowError") = false ∧ (cnm t == "java/lang/OutOfMemoryError") = false ∧ (msgN t).length ≤ 3 := by
  unfold msgT at h
  simp only [List.mem_cons, List.not_mem_nil, or_false] at h
  rcases h with rfl | rfl | rfl | rfl
  · exact ⟨aw_msg21, by decide +kernel, by decide +kernel, by decide +kernel, by decide +kernel, by decide⟩
  · exact ⟨aw_msg22, by decide +kernel, by decide +kernel, by decide +kernel, by decide +kernel, by decide⟩
  · exact ⟨aw_msg23, by decide +kernel, by decide +kernel, by decide +kernel, by decide +kernel, by decide⟩
  · exact ⟨aw_msg24, by decide +kernel, by decide +kernel, by decide +kernel, by decide +kernel, by decide⟩
section
variable {Z : SS0} {D : DD} {p : Program} {l : Launch} {e : Env} {R : Room} {s : State} {m : MethodId} {args : Array Value} {below : List Frame} {meth : Method} {c : Code} {T' : State} {locs : List Loc} {cells slots : Nat}
set_option maxHeartbeats 4000000 in
/-- an exception with a message is made and thrown over the frame -/
theorem msg_at {t : Nat} {text : String} (X : Stand p l e R s m args below meth c T' locs cells slots) (hexec : p.tables.exec = Jvm.exec) (htr : e.platform.stackTraces = false) (hB : Base Z D) (hW : Z.s.WarmedH s.vm) (hH : Hp Z s) (hHT : ∀ q, q < Z.s.heap.size → T'.heap[q]? = Z.s.heap[q]?) (ht : t ∈ msgT)
    (htext : (text == notModelled) = false) (htb : (stringBytes (stringToUtf16 text)).size ≤ 10000)
    {g : JFrame} (hg : g.method = m) (hsize : g.locals.size = c.maxLocals) (hRframes : 7 < R.frames) (hRlocals : 2 * g.monitorRoom + (g.stack.map fun v => v.category).sum + 10240 ≤ R.locals) (hRcells : cells + 3 ≤ R.cells) (hRslots : slots + 10010 ≤ R.slots) :
    ∃ (U : State) (L1 : List Loc), Stand p l e R s m args below meth c U (locs ++ L1) (cells + 3) (slots + 10010) ∧ (∀ q ∈ L1, q.base = T'.heap.size + 2) ∧ U.heap.size = T'.heap.size + 3 ∧ (∀ q, q < T'.heap.size → U.heap[q]? = T'.heap[q]?) ∧
      (∃ cell : Cell, U.heap[T'.heap.size + 2]? = some cell ∧ s.vm.findClass (cnm t) = some cell.cls ∧ cell.vm = .none ∧ cell.monitor.owner = none ∧ cell.monitor.count = 0 ∧ cell.slots.size = 6 ∧ ∀ i, SlotIs s "java/lang/Throwable" "backtrace" "Ljava/lang/Object;" i → cell.slots[i]? = some .null) ∧
      Steps p.tables e below ((T'.setTop g).pushFrame (.throwNew (cnm t) (some text) none)) ((U.setTop g).pushFrame (.throwing (T'.heap.size + 2))) := by
  obtain ⟨haw, hcls, hnames, hsoe, hoom, hnl⟩ := msg_all ht
  generalize hnm : msgN t = names at haw hnames hnl
  generalize hcn : cnm t = cls at haw hcls hsoe hoom ⊢
  have h : ∀ a ∈ Jvm.Bundle.messageArmAtoms cls names, a.before args s = true := fun w hw => aw_at hB hW hH (haw w hw)
  have howns : e.platform.frameOwnsMonitors = true := by rw [X.admits.platform]
  have hfin : e.platform.finalization = false := by rw [X.admits.platform]
  have hpl : e.platform.magicAccessors = ({} : Platform).magicAccessors := by rw [X.admits.platform]
  have a : ∀ x, x ∈ Jvm.Bundle.messageArmAtoms cls names → x.holds args s none s [] = true := fun x hx => h x hx
  obtain ⟨T, Z0, L, -, Y⟩ := ThrowableC.of_atoms (args := args) howns hfin hpl (fun x hx => h x (by simp [Jvm.Bundle.messageArmAtoms, hx]))
  obtain ⟨Z1, M, LZ, LM, hnZ⟩ := Init0T.ofS_atoms (args := args) hpl L Y (fun x hx => h x (by simp [Jvm.Bundle.messageArmAtoms, hx]))
  obtain ⟨P1, Ps, hlen, L1, hL, hP1m, hlink1, hlink⟩ := Jvm.Bundle.chainS (args := args) hpl hnZ names cls hcls hnames (fun x hx => h x (by simp [Jvm.Bundle.messageArmAtoms, hx]))
  obtain ⟨Zs, LZs, hn4, hfitv, hfitc⟩ := StringT.of_atoms (args := args) (fun x hx => h x (by simp [Jvm.Bundle.messageArmAtoms, hx]))
  have hfound : s.vm.findClass cls = some P1.m.cls := findClass_of_methodNamed hP1m
  obtain ⟨c1, kX, hc1, hk, hord, -, -, hn6⟩ := Cond.instantiable_spec (a (.instantiable cls 6) (by simp [Jvm.Bundle.messageArmAtoms]))
  cases Option.some.inj (hc1.symm.trans hfound)
  have hinit := Cond.initialized_spec hfound hk (a (.initialized cls) (by simp [Jvm.Bundle.messageArmAtoms]))
  have hctor : kX.findMethod "<init>" "(Ljava/lang/String;)V" = some P1.m.idx := findMethod_of_methodNamed hP1m hk
  have hsel0 : selectMethod e.platform s.vm P1.m.cls T.fill0 = .method T.fill0 := by
    obtain ⟨c2, r2, m2, q1, q2, q3, q4, -⟩ := Cond.selects_spec (a (.selects cls Jvm.Bundle.tFill0 Jvm.Bundle.tFill0) (by simp [Jvm.Bundle.messageArmAtoms]))
    cases Option.some.inj (q1.symm.trans hfound)
    cases Option.some.inj (q2.symm.trans (State.methodFound?_of_named Y.fill0 (by decide)))
    cases Option.some.inj (q3.symm.trans Y.fill0)
    rw [Launch.admits_selectMethod X.admits]; exact q4
  have hselF : selectMethod e.platform s.vm P1.m.cls T.fill = .method T.fill := by
    obtain ⟨c2, r2, m2, q1, q2, q3, q4, -⟩ := Cond.selects_spec (a (.selects cls Jvm.Bundle.tFill Jvm.Bundle.tFill) (by simp [Jvm.Bundle.messageArmAtoms]))
    cases Option.some.inj (q1.symm.trans hfound)
    cases Option.some.inj (q2.symm.trans (State.methodFound?_of_named Y.fill (by decide)))
    cases Option.some.inj (q3.symm.trans Y.fill)
    rw [Launch.admits_selectMethod X.admits]; exact q4
  obtain ⟨cellS0, hcS0, hiss⟩ := Y.statics
  have hold := aS_old hB hW L Y
  have hcellS : T'.heap[T.aS]? = some cellS0 := by rw [hHT _ hold, ← hH _ hold]; exact hcS0
  obtain ⟨u0, hu0⟩ := Cond.staticRefV Y.unassigned L.unassignedStatic L.statics hcS0 hiss (a (.isRef (.static Jvm.Bundle.tN "UNASSIGNED_STACK" Jvm.Bundle.steD)) (by simp [Jvm.Bundle.messageArmAtoms]))
  obtain ⟨sen, hsen⟩ := Cond.staticRefV Y.sentinel L.sentinelStatic L.statics hcS0 hiss (a (.isRef (.static Jvm.Bundle.tN "SUPPRESSED_SENTINEL" Jvm.Bundle.listD)) (by simp [Jvm.Bundle.messageArmAtoms]))
  obtain ⟨ci198, i198, fB, hk198, hg198, ha198, hsB, -, hnB, htB, hffB⟩ := Cond.ownField (t := .object "java/lang/Object") Y.found L.cls (by decide +kernel) (a (.fieldLink Jvm.Bundle.tN 198 Jvm.Bundle.tN "backtrace" "Ljava/lang/Object;") (by simp [Jvm.Bundle.messageArmAtoms])) (a (.lays Jvm.Bundle.tN Jvm.Bundle.tN "backtrace" "Ljava/lang/Object;") (by simp [Jvm.Bundle.messageArmAtoms])) e.platform hpl
  have hknownS : cellS0.vm ≠ .unknown := by
    intro hu
    rw [show cellS0.vm = .unknown from hu] at hiss
    cases hiss
  obtain ⟨iM, hffM⟩ := Y.msg
  obtain ⟨tyC, dC, hdC, hdnC⟩ := Cond.laysAt hfound hk Y.cause (a (.lays cls Jvm.Bundle.tN "cause" "Ljava/lang/Throwable;") (by simp [Jvm.Bundle.messageArmAtoms]))
  obtain ⟨tyS, dS, hdS, hdnS⟩ := Cond.laysAt hfound hk Y.stack (a (.lays cls Jvm.Bundle.tN "stackTrace" Jvm.Bundle.steD) (by simp [Jvm.Bundle.messageArmAtoms]))
  obtain ⟨tyP, dP, hdP, hdnP⟩ := Cond.laysAt hfound hk Y.supp (a (.lays cls Jvm.Bundle.tN "suppressedExceptions" Jvm.Bundle.listD) (by simp [Jvm.Bundle.messageArmAtoms]))
  obtain ⟨tyM, dM, hdM, hdnM⟩ := Cond.laysAt hfound hk hffM (a (.lays cls Jvm.Bundle.tN "detailMessage" "Ljava/lang/String;") (by simp [Jvm.Bundle.messageArmAtoms]))
  obtain ⟨tyB, dB, hdB, hdnB⟩ := Cond.laysAt hfound hk hffB (a (.lays cls Jvm.Bundle.tN "backtrace" "Ljava/lang/Object;") (by simp [Jvm.Bundle.messageArmAtoms]))
  have hnM : T.fMsg.name = "detailMessage" := (State.fieldFound?_type hffM (t := .object "java/lang/String") (by decide +kernel)).1
  have bC := Cond.laysApart hdB hdC hdnB hdnC (by rw [hnB, Y.causeName]; decide)
  have bS := Cond.laysApart hdB hdS hdnB hdnS (by rw [hnB, Y.stackName]; decide)
  have bP := Cond.laysApart hdB hdP hdnB hdnP (by rw [hnB, Y.suppName]; decide)
  have bM := Cond.laysApart hdB hdM hdnB hdnM (by rw [hnB, hnM]; decide)
  have hnull := fresh_default (c := P1.m.cls) tyB
  rw [htB] at hnull
  have hskip : SkipFacts T e.platform s (fun u => u) u0 ((preparedCellV T.toThrowableT (freshCell P1.m.cls kX) (T'.heap.size + 2) u0 sen).withEntry T'.cur) :=
    ⟨{ ci198 := ci198, i198 := i198, fBack := fB }, ⟨hk198, hg198, ha198, hsB⟩, by
      simpa [preparedCellV, Cell.setSlot, Cell.withEntry, Array.getElem?_setIfInBounds, bC, bS, bP, bC.symm, bS.symm, bP.symm, defaultValue] using hnull, fun _ _ => rfl⟩
  have hAt : _root_.Jvm.At T' g.method c below := by rw [hg]; exact X.here
  obtain ⟨hbeyond, hfreeW⟩ := X.vmMayThrow hsize (.throwNew cls (some text) none) (fun f hf => by cases hf) rfl hRlocals
  have hfr' : T'.frames.length + Ps.length + 4 < (e.platform.stackLimits T'.me).1 := by
    have := X.framesAbove (n := 7) hRframes
    omega
  have hwd' : (stackUse (.java g :: T'.frames.tail)).2 + 13 * Ps.length + 55 ≤ (e.platform.stackLimits T'.me).2 := by
    have := X.stackAbove hsize (K := 13 * 3 + 55) (by omega)
    omega
  have hlimit : ¬ (stringBytes (stringToUtf16 text)).size > e.platform.arrayLengthLimit := by rw [Launch.admits_arrayLengthLimit X.admits]; omega
  have hheap : ¬ (stringBytes (stringToUtf16 text)).size * componentBytes .byte > e.platform.maxHeapBytes := by
    rw [Launch.admits_maxHeapBytes X.admits]
    show ¬ _ * 1 > _
    omega
  have hslots : T'.slotsUsed + (stringBytes (stringToUtf16 text)).size + Zs.kS.instanceTypes.size + kX.instanceTypes.size ≤ e.platform.maxSlots := by
    have := X.slotsAbove (n := 10010) hRslots
    omega
  obtain ⟨vm', hW', stp⟩ := Steps.vmThrowsMessageColdByV p (s₀ := s) (S := T') (g := g) hAt hexec T L Z1 LZ M LM X.warmed (t := T'.cur) rfl Zs LZs P1 L1 Ps hL hlink1 hlink hsoe hoom hfound hk hinit hord hctor
    (Launch.admits_hotImplicitExceptions X.admits) hbeyond hfreeW htext hlimit hheap (X.cellsAbove hRcells) hslots (hfitv _) (hfitc _)
    (Nn := fun u => u) heapOnly_id (fun _ _ => rfl) (fun _ => rfl) (fun u x y => setCell_twice _ _ _ _) (fun _ => Nat.le_refl _) (cN := ((preparedCellV T.toThrowableT (freshCell P1.m.cls kX) (T'.heap.size + 2) u0 sen).withEntry T'.cur))
    hsel0 hcellS hknownS hu0 (Takes.of_laid hk hord tyS (by rw [Y.stackType]; exact fits_refV_array _ u0)) (fun _ hu => hu) (fun _ hu => hu) rfl rfl rfl (by simp [preparedCellV, Cell.setSlot, Cell.withEntry]) hskip (fun _ _ hA hW _ hroom _ hrest => L.nativeOff p htr hA hW hroom hrest) hselF hsen
    (Takes.of_laid hk hord tyC (by rw [Y.causeType]; rfl)) (Takes.of_laid hk hord tyP (by rw [Y.suppType]; exact fits_refV_object _ sen)) (Takes.of_laid hk hord tyM (by rw [Y.msgType]; rfl)) Y.objLocals rfl hfr' hwd'
  rw [plainBareV_eq T.toThrowableT (T'.heap.size + 2) u0 sen (.ref (T'.heap.size + 1)) T'.cur rfl rfl] at stp
  obtain ⟨-, -, w3, w4, -, -, -⟩ := withThrown_facts e.platform T' Zs text P1.m.cls kX
  have X3 := ((X.pushed (bytesOf Zs.cB (stringToUtf16 text))).pushed (stringAt Zs.cS Zs.kS Zs.fv Zs.fc (stringToUtf16 text) T'.heap.size)).pushed (freshCell P1.m.cls kX)
  rw [← withString_eq] at X3
  have X4 := X3.noted hW'
  have ha : (T'.heap.size + 2) < ((withThrown T' Zs text P1.m.cls kX).setVm vm').heap.size := by show _ < (withThrown T' Zs text P1.m.cls kX).heap.size; rw [w3]; omega
  have hcell : ((withThrown T' Zs text P1.m.cls kX).setVm vm').heap[(T'.heap.size + 2)]? = some (freshCell P1.m.cls kX) := w4
  have X5 := ((((X4.stored hcell T.fCause.slot (.ref (T'.heap.size + 2))).storedAgain ha T.fStack.slot u0.v).storedAgain ha T.fSupp.slot sen.v).storedAgain ha T.fStack.slot u0.v).storedAgain ha T.fMsg.slot (.ref (T'.heap.size + 1))
  have b1 : (bytesOf Zs.cB (stringToUtf16 text)).slots.size = (stringBytes (stringToUtf16 text)).size := by
    rw [(Cell.writeAll_facts _ _).2.2]; simp [bytes0]
  have b2 : (stringAt Zs.cS Zs.kS Zs.fv Zs.fc (stringToUtf16 text) T'.heap.size).slots.size = 4 := by simp [string0, Cell.setSlot, hn4]
  have b3 : (freshCell P1.m.cls kX).slots.size = 6 := by simp [hn6]
  rw [b1, b2, b3] at X5
  simp only [List.append_assoc, List.cons_append, List.nil_append] at X5
  have X6 := stand_widen (k := cells + 3) (n := slots + 10010) X5 (by omega) (by omega)
  have hz : ∀ (U : State) (a : Addr) (x : Cell), (U.setCell a x).heap.size = U.heap.size := fun U a x => by simp [State.setCell]
  refine ⟨_, _, X6, fun q hq => ?_, ?_, fun q hq => ?_, ⟨_, heapAt_setCell_self _ ha, hfound, rfl, rfl, rfl, ?_, fun i hi => ?_⟩, stp _ ?_⟩
  · simp only [List.mem_cons, List.not_mem_nil, or_false] at hq
    rcases hq with rfl | rfl | rfl | rfl | rfl <;> rfl
  · rw [hz]
    show (withThrown T' Zs text P1.m.cls kX).heap.size = _
    rw [w3]
  · rw [heapAt_setCell_ne _ (show T'.heap.size + 2 ≠ q by omega)]
    show (withThrown T' Zs text P1.m.cls kX).heap[q]? = _
    unfold withThrown
    rw [withString_eq]
    have p1 : ∀ (U : State) (x : Cell) (q : Nat), q < U.heap.size → (U.pushCell x).heap[q]? = U.heap[q]? := fun U x q hq => State.heap_pushCell_of_lt U x hq
    have z1 : ∀ (U : State) (x : Cell), (U.pushCell x).heap.size = U.heap.size + 1 := fun U x => State.heap_size_pushCell _ _
    rw [p1 _ _ _ (by rw [z1, z1]; omega), p1 _ _ _ (by rw [z1]; omega), p1 _ _ _ hq]
  · simp [plainBareV, preparedCellV, Cell.setSlot, hn6]
  · obtain ⟨cf, kf, fi, fd, hff, rfl⟩ := hi
    cases hff.symm.trans hffB
    simpa [plainBareV, preparedCellV, Cell.setSlot, Array.getElem?_setIfInBounds, bC, bS, bP, bM, bC.symm, bS.symm, bP.symm, bM.symm, defaultValue] using hnull
  · obtain ⟨g₁, hfrM⟩ := X6.frames_eq
    rw [State.pushFrame, State.frames_setTop _ hfrM, State.setTop_of_frames _ hfrM, State.setFrames_setFrames, ← X.tail]
    exact Steps.refl _
end
