/-! soundness 40: the constructor of ArrayIndexOutOfBoundsException -/
theorem xin_bmp {Z : SS0} {D : DD} {ad : Nat → Nat} {G : AH} {H H' : Heap} {a : Nat} {cell : Cell} (hc : Conc Z D ad G H) (h3 : 3 ≤ a) (ha : a < hN G) (ht : hT G a = 12 ∨ hT G a = 22) (hsz : H'.size = H.size) (hoth : ∀ q, q ≠ ad a → H'[q]? = H[q]?) (hcell : H'[ad a]? = some cell) (c1 : cell.vm = .none) (c2 : cell.cls = D.1 (hT G a)) (c3 : cell.monitor.owner = none ∧ cell.monitor.count = 0 ∧ cell.slots.size = 6 ∧ cell.slots[D.2.1 12 0]? = some .null) : Conc Z D ad (bmp G) H' := by
  refine hc.upd h3 ha hsz hoth rfl (fun _ => rfl) (fun _ => rfl) (fun _ _ _ => rfl) (fun _ _ _ => rfl) (fun _ _ _ => rfl) (fun i r hr => hc.2.2.2.1 a i r hr) ?_
  have hex : hT G a ∈ excT := by rcases ht with h | h <;> rw [h] <;> decide
  unfold CellA
  rw [hT_bmp]
  exact ⟨fun q => absurd q ((show ∀ t ∈ excT, ¬ t ∈ objT by decide) _ hex), fun q => absurd q ((show ∀ t ∈ excT, ¬ t ∈ arrTg by decide) _ hex), fun _ => ⟨cell, hcell, c1, c2, fun _ => c3⟩, Or.inr (Or.inr hex)⟩
theorem exc3 {Z : SS0} {D : DD} {ad : Nat → Nat} {G : AH} {H : Heap} {a : Nat} (hc : Conc Z D ad G H) (ht : hT G a = 12 ∨ hT G a = 22) : 3 ≤ a := by
  obtain ⟨t0, -, -, t1, -, t2⟩ := hc.2.2.2.2.2.1
  rcases Nat.lt_or_ge a 3 with q | q
  · exfalso
    match a, q with
    | 0, _ => rw [t0] at ht; rcases ht with h | h <;> cases h
    | 1, _ => rw [t1] at ht; rcases ht with h | h <;> cases h
    | 2, _ => rw [t2] at ht; rcases ht with h | h <;> cases h
  · exact q
theorem ly_cause : ∀ t, t = 12 ∨ t = 22 → Cond.lays (cnm t) "java/lang/Throwable" "cause" "Ljava/lang/Throwable;" ∈ lw_all := by
  rintro t (rfl | rfl)
  · exact q1281
  · exact q670
theorem ly_stack : ∀ t, t = 12 ∨ t = 22 → Cond.lays (cnm t) "java/lang/Throwable" "stackTrace" "[Ljava/lang/StackTraceElement;" ∈ lw_all := by
  rintro t (rfl | rfl)
  · exact q1282
  · exact q671
theorem ly_supp : ∀ t, t = 12 ∨ t = 22 → Cond.lays (cnm t) "java/lang/Throwable" "suppressedExceptions" "Ljava/util/List;" ∈ lw_all := by
  rintro t (rfl | rfl)
  · exact q1283
  · exact q673
theorem ly_msg : ∀ t, t = 12 ∨ t = 22 → Cond.lays (cnm t) "java/lang/Throwable" "detailMessage" "Ljava/lang/String;" ∈ lw_all := by
  rintro t (rfl | rfl)
  · exact q1284
  · exact q669
theorem ly_back : ∀ t, t = 12 ∨ t = 22 → Cond.lays (cnm t) "java/lang/Throwable" "backtrace" "Ljava/lang/Object;" ∈ lw_all := by
  rintro t (rfl | rfl)
  · exact q1285
  · exact q668
theorem in_six : ∀ t, t = 12 ∨ t = 22 → Cond.instantiable (cnm t) 6 ∈ lw_all := by
  rintro t (rfl | rfl)
  · exact q1278
  · exact q661
theorem se_f0 : ∀ t, t = 12 ∨ t = 22 → Cond.selects (cnm t) Jvm.Bundle.tFill0 Jvm.Bundle.tFill0 ∈ lw_all := by
  rintro t (rfl | rfl)
  · exact q1280
  · exact q678
theorem se_f : ∀ t, t = 12 ∨ t = 22 → Cond.selects (cnm t) Jvm.Bundle.tFill Jvm.Bundle.tFill ∈ lw_all := by
  rintro t (rfl | rfl)
  · exact q569
  · exact q570
theorem takes_of {s : State} {cell : Cell} {k : Class} {f : Field} {v : Value} (hk : s.vm.classes[cell.cls]? = some k) (hord : k.kind = .ordinary) (hvm : cell.vm = .none) (hn : cell.slots.size = k.instanceTypes.size) (hty : k.instanceTypes[f.slot]? = some f.type) (hv : fits f.type v = true) : Takes s cell f v := by
  refine ⟨?_, ?_⟩
  · have := (Array.getElem?_eq_some_iff.mp hty).1
    omega
  · rw [hvm]
    simp [State.fitsSlot, State.slotType?, hk, hord, hty, hv]
theorem Stand.more {p : Program} {l : Launch} {e : Env} {R : Room} {s : State} {m : MethodId} {args : Array Value} {below : List Frame} {meth : Method} {c : Code} {T : State} {locs : List Loc} {cells slots cells' slots' : Nat} (X : Stand p l e R s m args below meth c T locs cells slots) (h1 : cells ≤ cells') (h2 : slots ≤ slots') : Stand p l e R s m args below meth c T locs cells' slots' :=
  ⟨X.admits, X.cas, X.clock, X.frames, X.room, X.hears, X.method, X.code, X.here, X.tail, X.warmed, X.limits, X.bytes, X.same.weaken (fun y hy _ => hy) h1 h2⟩
theorem bt_slot {Z : SS0} {D : DD} {s : State} (hB : Base Z D) (hW : Z.s.WarmedH s.vm) {c : ClassId} {k : Class} {i : Nat} {fd : Field} (hff : s.fieldFound? "java/lang/Throwable" "backtrace" "Ljava/lang/Object;" = some (c, k, i, fd)) : fd.slot = D.2.1 12 0 := by
  obtain ⟨cf, kf, fi, fd2, hff2, hsl⟩ := slotIs_moved hW.alike (hB.2.2.2.2.1 12 (by decide)).2
  cases hff.symm.trans hff2
  exact hsl
section
variable {Z : SS0} {D : DD} {p : Program} {l : Launch} {e : Env} {R : Room} {s : State} {m : MethodId} {args : Array Value} {below : List Frame} {meth : Method} {c : Code} {Q : State → Prop} {d y pc a : Nat} {L : AL} {st st' : List AV} {G : AH} {H : Heap} {locs : List Loc} {cells slots : Nat} {ls : Array Slot} {ad : Nat → Nat}
theorem rm_x {d w rl : Nat} (h : 64 * d + 12288 ≤ rl) (hw : w ≤ 16) : 2 * 0 + w + 1000 ≤ rl := by
  have h2 : 12288 ≤ rl := Nat.le_trans (Nat.le_add_left _ _) h
  have h3 : 2 * 0 + w ≤ 16 := by omega
  exact Nat.le_trans (Nat.add_le_add_right h3 1000) (Nat.le_trans (by decide) h2)
set_option maxHeartbeats 4000000 in
theorem xin22 (hB : Base Z D) (hl0 : l.stackTraces = false) (C : Ctx Z p s m meth c y) (hHp : Hp Z s) (hRd : RmD d R) (hsz : ls.size = c.maxLocals) (hc0 : mcls y = 0) (hd : decode (mcode y) pc = .ok (.invokespecial 236, 3)) (hst : st.map (cvl ad) = Value.ref (ad a) :: st'.map (cvl ad)) (ha : a < hN G) (ht : hT G a = 12 ∨ hT G a = 22) (hw : wt st' ≤ 16) (hmS : ∀ v ∈ st', v ∈ st) (S : Sim Z D ad G L st H locs ls) (K : Nx Z D p l e R s m args below meth c Q cells slots ad G (pc + 3, L, st', bmp G)) : W p l e R s m args below meth c H locs cells slots Q (F0 m pc ls (st.map (cvl ad))) := by
  obtain ⟨hx, hb, hml, hW, hown, -, -, -⟩ := C
  rw [hc0] at hown
  rw [hst]
  intro T hT X
  subst hT
  rw [← hb] at hd
  have htr : e.platform.stackTraces = false := by rw [X.admits.platform]; exact hl0
  have howns : e.platform.frameOwnsMonitors = true := by rw [X.admits.platform]
  have hfin : e.platform.finalization = false := by rw [X.admits.platform]
  have hpl : e.platform.magicAccessors = ({} : Platform).magicAccessors := by rw [X.admits.platform]
  have h : ∀ w ∈ Jvm.Bundle.ownAtoms0 "HeardPlaces" 236 "java/lang/ArrayIndexOutOfBoundsException" ["java/lang/IndexOutOfBoundsException", "java/lang/RuntimeException", "java/lang/Exception"], w.before args s = true := fun w hw => aw_at hB hW hHp (aw_own22 w hw)
  have a' : ∀ x, x ∈ Jvm.Bundle.ownAtoms0 "HeardPlaces" 236 "java/lang/ArrayIndexOutOfBoundsException" ["java/lang/IndexOutOfBoundsException", "java/lang/RuntimeException", "java/lang/Exception"] → x.holds args s none s [] = true := fun x hx => h x hx
  obtain ⟨V, Z0, LV, LZ, Y⟩ := ThrowableC.of_atoms (args := args) howns hfin hpl (fun x hx => h x (by simp [Jvm.Bundle.ownAtoms0, hx]))
  obtain ⟨P1, Ps, hlen, L1, hL, hP1m, hlink1, hlink⟩ := Jvm.Bundle.chain0 (args := args) hpl Y.init0 ["java/lang/IndexOutOfBoundsException", "java/lang/RuntimeException", "java/lang/Exception"] "java/lang/ArrayIndexOutOfBoundsException" (by decide) (by decide) (fun x hx => h x (by simp [Jvm.Bundle.ownAtoms0, hx]))
  have hfound : s.vm.findClass (cnm (hT G a)) = some (D.1 (hT G a)) := exc_cls hB hW (by rcases ht with h | h <;> rw [h] <;> decide)
  obtain ⟨c1, kX, hc1, hk, hord, -, -, hn6⟩ := Cond.instantiable_spec (hB.word hW (args := args) (in_six _ ht))
  cases Option.some.inj (hc1.symm.trans hfound)
  have h3 := exc3 S.1 ht
  obtain ⟨cell, q1, q2, q3, q4⟩ := (S.1.1 a h3 ha).2.2.1 (by rcases ht with h | h <;> rw [h] <;> decide)
  obtain ⟨m1, m2, m3, m4⟩ := q4 ht
  have ecls : cell.cls = D.1 (hT G a) := q3
  have hkc : s.vm.classes[cell.cls]? = some kX := by rw [ecls]; exact hk
  have hsel0 : selectMethod e.platform s.vm (D.1 (hT G a)) V.fill0 = .method V.fill0 := by
    obtain ⟨c2, r2, m2, q1, q2, q3, q4, -⟩ := Cond.selects_spec (hB.word hW (args := args) (se_f0 _ ht))
    cases Option.some.inj (q1.symm.trans hfound)
    cases Option.some.inj (q2.symm.trans (State.methodFound?_of_named Y.fill0 (by decide)))
    cases Option.some.inj (q3.symm.trans Y.fill0)
    rw [Launch.admits_selectMethod X.admits]; exact q4
  have hselF : selectMethod e.platform s.vm (D.1 (hT G a)) V.fill = .method V.fill := by
    obtain ⟨c2, r2, m2, q1, q2, q3, q4, -⟩ := Cond.selects_spec (hB.word hW (args := args) (se_f _ ht))
    cases Option.some.inj (q1.symm.trans hfound)
    cases Option.some.inj (q2.symm.trans (State.methodFound?_of_named Y.fill (by decide)))
    cases Option.some.inj (q3.symm.trans Y.fill)
    rw [Launch.admits_selectMethod X.admits]; exact q4
  obtain ⟨cellS0, hcS0, hiss⟩ := Y.statics
  have hold := aS_old hB hW LV Y
  have hcellS : T.heap[V.aS]? = some cellS0 := by rw [S.1.2.2.2.2.2.2.2.2 _ hold, ← hHp _ hold]; exact hcS0
  have hneS : V.aS ≠ ad a := Nat.ne_of_lt (Nat.lt_of_lt_of_le hold (S.1.2.2.1 a h3 ha).1)
  obtain ⟨u0, hu0⟩ := Cond.staticRefV Y.unassigned LV.unassignedStatic LV.statics hcS0 hiss (a' (.isRef (.static Jvm.Bundle.tN "UNASSIGNED_STACK" Jvm.Bundle.steD)) (by simp [Jvm.Bundle.ownAtoms0]))
  obtain ⟨sen, hsen⟩ := Cond.staticRefV Y.sentinel LV.sentinelStatic LV.statics hcS0 hiss (a' (.isRef (.static Jvm.Bundle.tN "SUPPRESSED_SENTINEL" Jvm.Bundle.listD)) (by simp [Jvm.Bundle.ownAtoms0]))
  obtain ⟨ci198, i198, fB, hk198, hg198, ha198, hsB, -, hnB, htB, hffB⟩ := Cond.ownField (t := .object "java/lang/Object") Y.found LV.cls (by decide +kernel) (a' (.fieldLink Jvm.Bundle.tN 198 Jvm.Bundle.tN "backtrace" "Ljava/lang/Object;") (by simp [Jvm.Bundle.ownAtoms0])) (a' (.lays Jvm.Bundle.tN Jvm.Bundle.tN "backtrace" "Ljava/lang/Object;") (by simp [Jvm.Bundle.ownAtoms0])) e.platform hpl
  have hknownS : cellS0.vm ≠ .unknown := by
    intro hu
    rw [show cellS0.vm = .unknown from hu] at hiss
    cases hiss
  obtain ⟨tyC, dC, hdC, hdnC⟩ := Cond.laysAt hfound hk Y.cause (hB.word hW (args := args) (ly_cause _ ht))
  obtain ⟨tyS, dS, hdS, hdnS⟩ := Cond.laysAt hfound hk Y.stack (hB.word hW (args := args) (ly_stack _ ht))
  obtain ⟨tyP, dP, hdP, hdnP⟩ := Cond.laysAt hfound hk Y.supp (hB.word hW (args := args) (ly_supp _ ht))
  obtain ⟨tyB, dB, hdB, hdnB⟩ := Cond.laysAt hfound hk hffB (hB.word hW (args := args) (ly_back _ ht))
  have bC := Cond.laysApart hdB hdC hdnB hdnC (by rw [hnB, Y.causeName]; decide)
  have bS := Cond.laysApart hdB hdS hdnB hdnS (by rw [hnB, Y.stackName]; decide)
  have bP := Cond.laysApart hdB hdP hdnB hdnP (by rw [hnB, Y.suppName]; decide)
  have hbs := bt_slot hB hW hffB
  rw [← hbs] at m4
  have hszk : cell.slots.size = kX.instanceTypes.size := by rw [m3, hn6]
  have hskip : SkipFacts V e.platform s (fun u => u) u0 ((preparedCellV V.toThrowableT cell (ad a) u0 sen).withEntry T.cur) :=
    ⟨{ ci198 := ci198, i198 := i198, fBack := fB }, ⟨hk198, hg198, ha198, hsB⟩, by
      simpa [preparedCellV, Cell.setSlot, Cell.withEntry, Array.getElem?_setIfInBounds, bC, bS, bP, bC.symm, bS.symm, bP.symm] using m4, fun _ _ => rfl⟩
  obtain ⟨tm, methC, cdC, kC, vm₁, hnC, -, -, -, -, -, -, -, hW₁, st1⟩ := Steps.initCold (tb := p.tables) (e := e) (below := below) (s := s) (U := T) X.here hx X.warmed hpl hown (t := Jvm.Bundle.init0 "java/lang/ArrayIndexOutOfBoundsException") rfl rfl (Jvm.Bundle.fit_spec (by decide)).2
    (a' (.methodLink "HeardPlaces" 236 (Jvm.Bundle.init0 "java/lang/ArrayIndexOutOfBoundsException")) (by simp [Jvm.Bundle.ownAtoms0])) (h (.instanceMethod (Jvm.Bundle.init0 "java/lang/ArrayIndexOutOfBoundsException")) (by simp [Jvm.Bundle.ownAtoms0, Jvm.Bundle.chain0Atoms, Jvm.Bundle.passAtoms])) (bytes := Jvm.Bundle.five) (maxL := 1) (h (.code (Jvm.Bundle.init0 "java/lang/ArrayIndexOutOfBoundsException") Jvm.Bundle.five 1 none) (by simp [Jvm.Bundle.ownAtoms0, Jvm.Bundle.chain0Atoms, Jvm.Bundle.passAtoms]))
    (f := F0 m pc ls (Value.ref (ad a) :: st'.map (cvl ad))) rfl (a := ad a) (rest := st'.map (cvl ad)) rfl hd
  cases Option.some.inj (hnC.symm.trans hP1m)
  have X1 := X.noted hW₁
  have hwt : ((st'.map (cvl ad)).map fun v => v.category).sum = wt st' := wt_of ad st'
  have hr2 := rm_x hRd.2 hw
  obtain ⟨vm₂, X2, st2⟩ := X1.ctorPlainOffV hx (g := F0 m pc ls (st'.map (cvl ad))) rfl hsz V LV Z0 LZ (P1 :: Ps)
    (fun P hP => by rcases List.mem_cons.mp hP with rfl | hP; exact L1; exact hL P hP) ⟨hlink1, hlink⟩ (u0 := u0) (sen := sen) (self := ad a) (cell := cell) (cellS := cellS0)
    q1 (fun k hk => by rw [q2] at hk; cases hk) (fun hk => by rw [q2] at hk; cases hk) m1 m2 (by rw [ecls]; exact hsel0) (by rw [ecls]; exact hselF) hcellS hneS hknownS hu0 hsen
    (takes_of hkc hord q2 hszk tyC (by rw [Y.causeType]; rfl)) (takes_of hkc hord q2 hszk tyS (by rw [Y.stackType]; exact fits_refV_array _ u0)) (takes_of hkc hord q2 hszk tyP (by rw [Y.suppType]; exact fits_refV_object _ sen)) Y.objLocals hskip htr [] hd
    (by simp only [List.length_cons, hlen]; have := hRd.1; simp only [List.length_nil]; omega) (by simp only [List.length_cons, hlen, List.length_nil]; rw [hwt]; exact Nat.le_trans (Nat.add_le_add_left (by decide) _) hr2)
  have hlt : ad a < ((T.setVm vm₁).setVm vm₂).heap.size := (Array.getElem?_eq_some_iff.mp q1).1
  have hU := heapAt_setCell_self (s := (T.setVm vm₁).setVm vm₂) ((preparedCellV V.toThrowableT cell (ad a) u0 sen).setSlot V.fStack.slot u0.v) hlt
  have hc' := xin_bmp (H' := (((T.setVm vm₁).setVm vm₂).setCell (ad a) ((preparedCellV V.toThrowableT cell (ad a) u0 sen).setSlot V.fStack.slot u0.v)).heap) S.1 h3 ha ht (size_setCell _ _ _) (fun q hq => heapAt_setCell_ne _ (Ne.symm hq)) hU q2 q3 ⟨m1, m2, by simpa [preparedCellV, Cell.setSlot] using m3, by
    rw [← hbs]
    simpa [preparedCellV, Cell.setSlot, Array.getElem?_setIfInBounds, bC, bS, bP, bC.symm, bS.symm, bP.symm] using m4⟩
  obtain ⟨tg, hst3, hQ⟩ := K _ _ ls ad (cells + 64) (slots + 20000) (⟨hc', S.2.1, S.2.2.1, fun v hv => S.2.2.2.1 v (hmS v hv), fun q hq => by
    rcases List.mem_append.mp hq with h | h
    · exact S.2.2.2.2 q h
    · have hb : q.base = ad a := by
        simp only [List.mem_cons, List.not_mem_nil, or_false] at h
        rcases h with rfl | rfl | rfl | rfl <;> rfl
      rw [hb]
      exact (S.1.2.2.1 a h3 ha).1⟩) (fun _ _ => rfl) (by rw [hC_bmp]; omega) (by rw [hS_bmp]; omega) _ rfl (Stand.more X2 (Nat.le_add_right _ _) (Nat.le_add_right _ _))
  refine ⟨tg, st1 _ (fun acts => ?_), hQ⟩
  rw [doInvoke_state]
  exact st2 _ hst3
end
