/-! soundness 42: the constructor of HeardPlaces$TooMany -/
/-- what is known of the exception's cell -/
def XCl (D : DD) (t : Nat) (cell : Cell) : Prop := (t = 12 ∨ t = 22) ∧ cell.vm = .none ∧ cell.cls = D.1 t ∧ cell.monitor.owner = none ∧ cell.monitor.count = 0 ∧ cell.slots.size = 6 ∧ cell.slots[D.2.1 12 0]? = some .null
def Rv (v : Value) : Prop := v = .null ∨ ∃ q, v = .ref q
theorem Rv.fit {v : Value} (h : Rv v) {ty : FieldType} (ht : ty.isReference = true) : narrow ty v = v ∧ fits ty v = true := by
  rcases h with rfl | ⟨q, rfl⟩ <;> cases ty <;> first | exact ⟨rfl, rfl⟩ | (simp [FieldType.isReference] at ht)
section
variable {Z : SS0} {D : DD} {p : Program} {l : Launch} {e : Env} {R : Room} {s : State} {m : MethodId} {args : Array Value} {below : List Frame} {meth : Method} {c : Code} {H : Heap} {locs : List Loc} {cells slots : Nat} {Q : State → Prop} {cc : ByteArray} {pc idx a : Nat} {ls : Array Slot} {nm ds : String} {ty : FieldType} {t0 : Nat}
theorem xput {v : Value} {cell : Cell} {rest : List Value} (hB : Base Z D) (hW : Z.s.WarmedH s.vm) (hexec : p.tables.exec = Jvm.exec) (hb : c.code = cc) (hown : s.vm.findClass "java/lang/Throwable" = some m.cls) (hfl : Cond.fieldLink "java/lang/Throwable" idx "java/lang/Throwable" nm ds ∈ lw_all) (hly : ∀ t, t = 12 ∨ t = 22 → Cond.lays (cnm t) "java/lang/Throwable" nm ds ∈ lw_all) (hpt : parseFieldDescriptor ds = some ty) (hty : ty.isReference = true) (hnm : nm ≠ "backtrace") (hv : Rv v) (hcell : H[a]? = some cell) (hXC : XCl D t0 cell) (hd : decode cc pc = .ok (.putfield idx, 3))
    (K : ∀ (H' : Heap) (cell' : Cell) (n : Nat), H'[a]? = some cell' → XCl D t0 cell' → H'.size = H.size → (∀ q, q ≠ a → H'[q]? = H[q]?) → W p l e R s m args below meth c H' (locs ++ [⟨a, n⟩]) cells slots Q (F0 m (pc + 3) ls rest)) : W p l e R s m args below meth c H locs cells slots Q (F0 m pc ls (v :: .ref a :: rest)) := by
  obtain ⟨x0, x1, x2, x3, x4, x5, x6⟩ := hXC
  have hf12 : s.vm.findClass (cnm t0) = some (D.1 t0) := exc_cls hB hW (t := t0) (by rcases x0 with h | h <;> rw [h] <;> decide)
  obtain ⟨c12, k12, cf, kf, fi, fd, r1, r2, hi, hst, hfin, hcast, hft, -⟩ := Cond.lays_spec (hB.word hW (args := args) (hly t0 x0))
  cases hf12.symm.trans r1
  obtain ⟨c1, kX, hc1, hk, hord, -, -, hn6⟩ := Cond.instantiable_spec (hB.word hW (args := args) (in_six t0 x0))
  cases hf12.symm.trans hc1
  cases r2.symm.trans hk
  obtain ⟨hname, htype⟩ := State.fieldFound?_type hi hpt
  obtain ⟨n1, n2⟩ := hv.fit hty
  -- the other field
  obtain ⟨iB, kB, fiB, fB, hffB, hslB⟩ := slotIs_moved hW.alike (hB.2.2.2.2.1 12 (by decide)).2
  obtain ⟨tyB, dB, hdB, hdnB⟩ := Cond.laysAt hf12 hk hffB (hB.word hW (args := args) (ly_back t0 x0))
  obtain ⟨tyF, dF, hdF, hdnF⟩ := Cond.laysAt hf12 hk hi (hB.word hW (args := args) (hly t0 x0))
  have hnB : fB.name = "backtrace" := (State.fieldFound?_type hffB (t := .object "java/lang/Object") (by decide +kernel)).1
  have hap := Cond.laysApart hdB hdF hdnB hdnF (by rw [hnB, hname]; exact Ne.symm hnm)
  refine W.putK (f := fd) hexec hb ⟨hown, hB.word hW hfl, ⟨cf, kf, fi, hi⟩, hst⟩ (a := a) (cell := cell) (v := v) ⟨hfin, by rw [htype]; exact n1, ?_⟩ hcell x1 ?_ rfl rfl hd fun H' g1 g2 g3 => K H' _ fd.slot g1 ⟨x0, x1, x2, x3, x4, ?_, ?_⟩ g2 g3
  · rw [x2]
    simp [State.fitsSlot, State.slotType?, hk, hord, tyF, htype, n2]
  · have := (Array.getElem?_eq_some_iff.mp tyF).1
    omega
  · rw [k2_slotsz]
    exact x5
  · rw [← hslB]
    rw [← hslB] at x6
    show (cell.slots.setIfInBounds fd.slot v)[fB.slot]? = _
    rw [Array.getElem?_setIfInBounds, if_neg (fun h => hap h.symm)]
    exact x6
theorem xst {st : List Value} (hB : Base Z D) (hW : Z.s.WarmedH s.vm) (hexec : p.tables.exec = Jvm.exec) (hb : c.code = cc) (hown : s.vm.findClass "java/lang/Throwable" = some m.cls) (hold : ∀ q, q < Z.s.heap.size → H[q]? = Z.s.heap[q]?) (hfl : Cond.fieldLink "java/lang/Throwable" idx "java/lang/Throwable" nm ds ∈ lw_all) (hls : Cond.laysStatic "java/lang/Throwable" nm ds ∈ lw_tbl) (hrf : Cond.isRef (.static "java/lang/Throwable" nm ds) ∈ flatC (Cond.and given_1 narrow_1)) (hd : decode cc pc = .ok (.getstatic idx, 3))
    (K : ∀ v, Rv v → W p l e R s m args below meth c H locs cells slots Q (F0 m (pc + 3) ls (v :: st))) : W p l e R s m args below meth c H locs cells slots Q (F0 m pc ls st) := by
  obtain ⟨c0, k, i, fd, aS, cell, hc, hi, hst, ha, hcell, hs, hcls, hlt, hty⟩ := Cond.laysStatic_spec (hB.1 _ hls)
  have hr := flat_of_before _ hB.2.1 _ hrf
  have e1 : (Term.static "java/lang/Throwable" nm ds).eval #[Value.ref Z.b] Z.s none [] Z.s = cell.slots[fd.slot]? := by simp [Term.eval, State.fieldNamed?, hi, hst, ha, hcell, hs]
  obtain ⟨k', hi', he⟩ := State.fieldFound?_setVm hW.alike hi
  have hi2 : s.fieldFound? "java/lang/Throwable" nm ds = some (c0, k', i, fd) := hi'
  have ha2 : k'.statics = some aS := by rw [he]; exact ha
  have hk2 := (State.fieldFound?_spec hi2).1
  have hc2 : s.vm.findClass "java/lang/Throwable" = some c0 := by rw [hW.alike.findClass]; exact hc
  have hinit := Cond.initialized_spec hc2 hk2 (hB.word hW (args := args) q139)
  have hcell2 : H[aS]? = some cell := by rw [hold aS (Array.getElem?_eq_some_iff.mp hcell).1]; exact hcell
  have hkn : cell.vm ≠ .unknown := by
    intro hu
    rw [hu] at hs
    cases hs
  simp only [Cond.before, Cond.holds, Cond.value] at hr
  rw [e1] at hr
  cases hv : cell.slots[fd.slot]? with
  | none => rw [hv] at hr; simp at hr
  | some v =>
    rw [hv] at hr
    have hRv : Rv v := by
      cases v <;> first | exact Or.inl rfl | exact Or.inr ⟨_, rfl⟩ | (simp [Value.isRef] at hr)
    exact W.gets hexec hb hown (hB.word hW hfl) hi2 hst hinit ha2 hcell2 hkn hv rfl hd (K v hRv)
end
section
variable {Z : SS0} {D : DD} {p : Program} {l : Launch} {e : Env} {R : Room} {s : State} {m : MethodId} {args : Array Value} {below : List Frame} {meth : Method} {c : Code} {H H0 : Heap} {locs : List Loc} {cells slots : Nat} {Q : State → Prop} {cc : ByteArray} {pc idx a : Nat} {ls : Array Slot} {nm ds : String} {ty : FieldType} {t0 : Nat}
theorem OneC.old (h : OneC H0 a (XCl D t0) H) (ha : Z.s.heap.size ≤ a) (hold : ∀ q, q < Z.s.heap.size → H0[q]? = Z.s.heap[q]?) : ∀ q, q < Z.s.heap.size → H[q]? = Z.s.heap[q]? := fun q hq => by rw [h.2.1 q (Nat.ne_of_lt (Nat.lt_of_lt_of_le hq ha))]; exact hold q hq
theorem yput {v : Value} {rest : List Value} (hB : Base Z D) (hW : Z.s.WarmedH s.vm) (hexec : p.tables.exec = Jvm.exec) (hb : c.code = cc) (hown : s.vm.findClass "java/lang/Throwable" = some m.cls) (hfl : Cond.fieldLink "java/lang/Throwable" idx "java/lang/Throwable" nm ds ∈ lw_all) (hly : ∀ t, t = 12 ∨ t = 22 → Cond.lays (cnm t) "java/lang/Throwable" nm ds ∈ lw_all) (hpt : parseFieldDescriptor ds = some ty) (hty : ty.isReference = true) (hnm : nm ≠ "backtrace") (hv : Rv v) (hO : OneC H0 a (XCl D t0) H) (hd : decode cc pc = .ok (.putfield idx, 3)) (hlo : ∀ q ∈ locs, q.base = a)
    (K : ∀ (H' : Heap) (locs' : List Loc), OneC H0 a (XCl D t0) H' → (∀ q ∈ locs', q.base = a) → W p l e R s m args below meth c H' locs' cells slots Q (F0 m (pc + 3) ls rest)) : W p l e R s m args below meth c H locs cells slots Q (F0 m pc ls (v :: .ref a :: rest)) := by
  obtain ⟨o1, o2, cell, o3, o4⟩ := hO
  refine xput hB hW hexec hb hown hfl hly hpt hty hnm hv o3 o4 hd fun H' cell' n g1 g2 g3 g4 => K H' _ ⟨g3.trans o1, fun q hq => (g4 q hq).trans (o2 q hq), cell', g1, g2⟩ fun q hq => ?_
  rcases List.mem_append.mp hq with h | h
  · exact hlo q h
  · rw [List.mem_singleton.mp h]
def thA (a q : Addr) : Array Value := (.ref a :: [.ref q, .null, .int 0, .int 0]).toArray
theorem thr4 {q : Addr} (hB : Base Z D) (hW : Z.s.WarmedH s.vm) (hexec : p.tables.exec = Jvm.exec) (hold : ∀ q, q < Z.s.heap.size → H0[q]? = Z.s.heap[q]?) (ha : Z.s.heap.size ≤ a) (hO : OneC H0 a (XCl D t0) H0) (hown : s.vm.findClass "java/lang/Throwable" = some m.cls) (hb : c.code = prog_34_method_5_code) (hml : c.maxLocals = 5) (hlk : meth.locks = false) (hret : meth.sig.returnType = none) (hR : 1 ≤ R.frames) (hRl : 100 ≤ R.locals) :
    W p l e R s m (thA a q) below meth c H0 [] 0 0 (MQ below (CQ H0 a (XCl D t0)) (thA a q) s 0 0 (fun q => q = a)) (entryFrame m (thA a q) 5) := by
  have e0 : entryFrame m (thA a q) 5 = F0 m 0 #[.val (.ref a), .val (.ref q), .val .null, .val (.int 0), .val (.int 0)] [] := rfl
  rw [e0]
  refine lv_aload_n (cc := prog_34_method_5_code) (k := 0) hexec hb (by decide +kernel) rfl rfl ?_
  refine W.objInit hexec hb hown (hB.word hW q561) (hB.word hW q169) (hB.word hW q170) rfl (by rw [hml]; rfl) (a := a) (rest := []) rfl (show decode prog_34_method_5_code 1 = _ by decide +kernel) hR (show 2 * 0 + 0 + 12 ≤ R.locals by omega) ?_
  show W p l e R s m (thA a q) below meth c H0 [] 0 0 _ (F0 m 4 _ [])
  refine lv_aload_n (cc := prog_34_method_5_code) (k := 0) hexec hb (by decide +kernel) rfl rfl ?_
  refine lv_aload_n (cc := prog_34_method_5_code) (k := 0) hexec hb (by decide +kernel) rfl rfl ?_
  refine yput (cc := prog_34_method_5_code) hB hW hexec hb hown q596 ly_cause (by decide +kernel) (ty := .object "java/lang/Throwable") rfl (by decide) (Or.inr ⟨_, rfl⟩) hO (by decide +kernel) (fun q hq => absurd hq List.not_mem_nil) fun H1 l1 hO1 hl1 => ?_
  refine lv_aload_n (cc := prog_34_method_5_code) (k := 0) hexec hb (by decide +kernel) rfl rfl ?_
  refine xst (cc := prog_34_method_5_code) hB hW hexec hb hown (hO1.old ha hold) q562 q563 rf_8 (by decide +kernel) fun v2 hv2 => ?_
  refine yput (cc := prog_34_method_5_code) hB hW hexec hb hown q597 ly_stack (by decide +kernel) (ty := .array (.object "java/lang/StackTraceElement")) rfl (by decide) hv2 hO1 (by decide +kernel) hl1 fun H2 l2 hO2 hl2 => ?_
  refine lv_aload_n (cc := prog_34_method_5_code) (k := 0) hexec hb (by decide +kernel) rfl rfl ?_
  refine xst (cc := prog_34_method_5_code) hB hW hexec hb hown (hO2.old ha hold) q564 q565 rf_9 (by decide +kernel) fun v3 hv3 => ?_
  refine yput (cc := prog_34_method_5_code) hB hW hexec hb hown q598 ly_supp (by decide +kernel) (ty := .object "java/util/List") rfl (by decide) hv3 hO2 (by decide +kernel) hl2 fun H3 l3 hO3 hl3 => ?_
  refine lv_iload (cc := prog_34_method_5_code) (i := 4) hexec hb (by decide +kernel) rfl ?_
  refine lv_if_eq (cc := prog_34_method_5_code) (off := 11) (tgt := 36) hexec hb (by decide +kernel) (by decide) (fun _ => ?_) (fun h => absurd rfl h)
  refine lv_aload_n (cc := prog_34_method_5_code) (k := 0) hexec hb (by decide +kernel) rfl rfl ?_
  refine lv_null (cc := prog_34_method_5_code) hexec hb (by decide +kernel) ?_
  refine yput (cc := prog_34_method_5_code) hB hW hexec hb hown q597 ly_stack (by decide +kernel) (ty := .array (.object "java/lang/StackTraceElement")) rfl (by decide) (Or.inl rfl) hO3 (by decide +kernel) hl3 fun H4 l4 hO4 hl4 => ?_
  refine lv_aload_n (cc := prog_34_method_5_code) (k := 0) hexec hb (by decide +kernel) rfl rfl ?_
  refine lv_aload_n (cc := prog_34_method_5_code) (k := 1) hexec hb (by decide +kernel) rfl rfl ?_
  refine yput (cc := prog_34_method_5_code) hB hW hexec hb hown q595 ly_msg (by decide +kernel) (ty := .object "java/lang/String") rfl (by decide) (Or.inr ⟨_, rfl⟩) hO4 (by decide +kernel) hl4 fun H5 l5 hO5 hl5 => ?_
  refine lv_aload_n (cc := prog_34_method_5_code) (k := 0) hexec hb (by decide +kernel) rfl rfl ?_
  refine lv_aload_nN (cc := prog_34_method_5_code) (k := 2) hexec hb (by decide +kernel) rfl rfl ?_
  refine yput (cc := prog_34_method_5_code) hB hW hexec hb hown q596 ly_cause (by decide +kernel) (ty := .object "java/lang/Throwable") rfl (by decide) (Or.inl rfl) hO5 (by decide +kernel) hl5 fun H6 l6 hO6 hl6 => ?_
  refine lv_iload_n (cc := prog_34_method_5_code) (k := 3) hexec hb (by decide +kernel) rfl rfl ?_
  refine lv_if_ne (cc := prog_34_method_5_code) (off := 8) (tgt := 60) hexec hb (by decide +kernel) (by decide) (fun h => absurd rfl h) (fun _ => ?_)
  refine lv_aload_n (cc := prog_34_method_5_code) (k := 0) hexec hb (by decide +kernel) rfl rfl ?_
  refine lv_null (cc := prog_34_method_5_code) hexec hb (by decide +kernel) ?_
  refine yput (cc := prog_34_method_5_code) hB hW hexec hb hown q598 ly_supp (by decide +kernel) (ty := .object "java/util/List") rfl (by decide) (Or.inl rfl) hO6 (by decide +kernel) hl6 fun H7 l7 hO7 hl7 => ?_
  exact W.vret (cc := prog_34_method_5_code) hexec hb hret (fun t ht _ => ⟨rfl, by rw [ht]; exact hO7⟩) hl7 (by decide +kernel) hlk
end
section
variable {Z : SS0} {D : DD} {p : Program} {l : Launch} {e : Env} {R : Room} {s : State} {m : MethodId} {args : Array Value} {below : List Frame} {meth : Method} {c : Code} {H H0 : Heap} {locs : List Loc} {cells slots : Nat} {Q : State → Prop} {cc : ByteArray} {pc idx a t0 : Nat} {ls : Array Slot}
theorem exc4 {q : Addr} (hB : Base Z D) (hW : Z.s.WarmedH s.vm) (hexec : p.tables.exec = Jvm.exec) (hold : ∀ q, q < Z.s.heap.size → H0[q]? = Z.s.heap[q]?) (ha : Z.s.heap.size ≤ a) (hO : OneC H0 a (XCl D t0) H0) (hown : s.vm.findClass "java/lang/Exception" = some m.cls) (hb : c.code = prog_23_method_5_code) (hml : c.maxLocals = 5) (hlk : meth.locks = false) (hret : meth.sig.returnType = none) (hR : 2 ≤ R.frames) (hRl : 200 ≤ R.locals) :
    W p l e R s m (thA a q) below meth c H0 [] 0 0 (MQ below (CQ H0 a (XCl D t0)) (thA a q) s 0 0 (fun q => q = a)) (entryFrame m (thA a q) 5) := by
  have e0 : entryFrame m (thA a q) 5 = F0 m 0 #[.val (.ref a), .val (.ref q), .val .null, .val (.int 0), .val (.int 0)] [] := rfl
  rw [e0]
  refine lv_aload_n (cc := prog_23_method_5_code) (k := 0) hexec hb (by decide +kernel) rfl rfl ?_
  refine lv_aload_n (cc := prog_23_method_5_code) (k := 1) hexec hb (by decide +kernel) rfl rfl ?_
  refine lv_aload_nN (cc := prog_23_method_5_code) (k := 2) hexec hb (by decide +kernel) rfl rfl ?_
  refine lv_iload_n (cc := prog_23_method_5_code) (k := 3) hexec hb (by decide +kernel) rfl rfl ?_
  refine lv_iload (cc := prog_23_method_5_code) (i := 4) hexec hb (by decide +kernel) rfl ?_
  intro T hT X
  subst hT
  obtain ⟨T2, L2, X2, hL2, hO2, st2⟩ := ctor_call (P := XCl D t0) (R' := { frames := 1, cells := 0, slots := 0, locals := 100 }) (t := ⟨"java/lang/Throwable", "<init>", "(Ljava/lang/String;Ljava/lang/Throwable;ZZ)V"⟩) (bytes := prog_34_method_5_code) (maxL := 5) (idx := 16) (a := a) (argsL := [.ref q, .null, .int 0, .int 0]) (rest := []) X hexec hown rfl (by decide) (by decide +kernel) (hB.word hW q1293) (hB.word hW q1294) (hB.word hW q1295) (g := F0 m 6 #[.val (.ref a), .val (.ref q), .val .null, .val (.int 0), .val (.int 0)] [.int 0, .int 0, .null, .ref q, .ref a]) rfl (by rw [hml]; rfl) (fun sig h => by
      have : sig.parameters.length = 4 := by
        revert h
        rw [show parseMethodDescriptor "(Ljava/lang/String;Ljava/lang/Throwable;ZZ)V" = some ⟨[.object "java/lang/String", .object "java/lang/Throwable", .boolean, .boolean], none⟩ by decide +kernel]
        intro h
        cases h
        rfl
      rw [this]; rfl) rfl (by rw [hb]; show decode prog_23_method_5_code 6 = _; decide +kernel) hR (show 2 * 0 + 0 + (5 + 11) + 100 ≤ R.locals by omega) (Nat.zero_le _) (Nat.zero_le _)
    (fun s' mk methK cK below' hWs hh hfc hcb hcm hlk' hret' => thr4 hB (State.WarmedH.trans hW hWs) hexec hold ha hO (by rw [hWs.alike.findClass]; exact hfc) hcb hcm hlk' hret' (Nat.le_refl _) (Nat.le_refl _))
  obtain ⟨t, a1, b1⟩ := W.vret (cc := prog_23_method_5_code) (pc := 9) (ls := #[.val (.ref a), .val (.ref q), .val .null, .val (.int 0), .val (.int 0)]) (Qc := CQ T.heap a (XCl D t0)) (free := fun q => q = a) (args := thA a q) hexec hb hret (H := T2.heap) (fun t ht _ => ⟨rfl, by rw [ht]; exact hO2⟩) (locs := [] ++ L2) hL2 (by decide +kernel) hlk T2 rfl X2
  exact ⟨t, st2 _ a1, b1⟩
end
section
variable {Z : SS0} {D : DD} {p : Program} {l : Launch} {e : Env} {R : Room} {s : State} {m : MethodId} {args : Array Value} {below : List Frame} {meth : Method} {c : Code} {H H0 : Heap} {locs : List Loc} {cells slots : Nat} {Q : State → Prop} {cc : ByteArray} {pc idx a t0 : Nat} {ls : Array Slot}
theorem W.ldcS {text own : String} {st : List Value} (hB : Base Z D) (hW : Z.s.WarmedH s.vm) (hexec : p.tables.exec = Jvm.exec) (hb : c.code = cc) (hown : s.vm.findClass own = some m.cls) (hw : Cond.stringRef own idx text ∈ lw_tbl) (hd : decode cc pc = .ok (.ldc idx, 2)) (K : ∀ q, W p l e R s m args below meth c H locs cells slots Q (F0 m (pc + 2) ls (.ref q :: st))) : W p l e R s m args below meth c H locs cells slots Q (F0 m pc ls st) := by
  intro T hT X
  have h1 : (Cond.stringRef own idx text).before args s = true := by
    have := Cond.stringRef_warmed hW (hB.1 _ hw)
    simp only [Cond.before, Cond.holds, Cond.value] at this ⊢
    exact this
  obtain ⟨k, cf, i, q, -, -, -, -, -, hev⟩ := Cond.stringRef_spec hown h1
  obtain ⟨t, a1, b1⟩ := K q T hT X
  exact ⟨t, X.ldcString hexec hown h1 hev (g := F0 m pc ls st) rfl (by rw [hb]; exact hd) t a1, b1⟩
theorem tm0 (hB : Base Z D) (hW : Z.s.WarmedH s.vm) (hexec : p.tables.exec = Jvm.exec) (hold : ∀ q, q < Z.s.heap.size → H0[q]? = Z.s.heap[q]?) (ha : Z.s.heap.size ≤ a) (hO : OneC H0 a (XCl D t0) H0) (hown : s.vm.findClass "HeardPlaces$TooMany" = some m.cls) (hb : c.code = prog_14_method_1_code) (hml : c.maxLocals = 1) (hlk : meth.locks = false) (hret : meth.sig.returnType = none) (hR : 3 ≤ R.frames) (hRl : 300 ≤ R.locals) :
    W p l e R s m (.ref a :: []).toArray below meth c H0 [] 0 0 (MQ below (CQ H0 a (XCl D t0)) (.ref a :: []).toArray s 0 0 (fun q => q = a)) (entryFrame m (.ref a :: []).toArray 1) := by
  have e0 : entryFrame m (.ref a :: []).toArray 1 = F0 m 0 #[.val (.ref a)] [] := rfl
  rw [e0]
  refine lv_aload_n (cc := prog_14_method_1_code) (k := 0) hexec hb (by decide +kernel) rfl rfl ?_
  refine W.ldcS (cc := prog_14_method_1_code) hB hW hexec hb hown q1289 (by decide +kernel) fun q => ?_
  refine lv_null (cc := prog_14_method_1_code) hexec hb (by decide +kernel) ?_
  refine lv_iconst (cc := prog_14_method_1_code) (n := 0) (v := 0) hexec hb (by decide +kernel) rfl ?_
  refine lv_iconst (cc := prog_14_method_1_code) (n := 0) (v := 0) hexec hb (by decide +kernel) rfl ?_
  intro T hT X
  subst hT
  obtain ⟨T2, L2, X2, hL2, hO2, st2⟩ := ctor_call (P := XCl D t0) (R' := { frames := 2, cells := 0, slots := 0, locals := 200 }) (t := ⟨"java/lang/Exception", "<init>", "(Ljava/lang/String;Ljava/lang/Throwable;ZZ)V"⟩) (bytes := prog_23_method_5_code) (maxL := 5) (idx := 3) (a := a) (argsL := [.ref q, .null, .int 0, .int 0]) (rest := []) X hexec hown rfl (by decide) (by decide +kernel) (hB.word hW q1290) (hB.word hW q1291) (hB.word hW q1292) (g := F0 m 6 #[.val (.ref a)] [.int 0, .int 0, .null, .ref q, .ref a]) rfl (by rw [hml]; rfl) (fun sig h => by
      have : sig.parameters.length = 4 := by
        revert h
        rw [show parseMethodDescriptor "(Ljava/lang/String;Ljava/lang/Throwable;ZZ)V" = some ⟨[.object "java/lang/String", .object "java/lang/Throwable", .boolean, .boolean], none⟩ by decide +kernel]
        intro h
        cases h
        rfl
      rw [this]; rfl) rfl (by rw [hb]; show decode prog_14_method_1_code 6 = _; decide +kernel) hR (show 2 * 0 + 0 + (5 + 11) + 200 ≤ R.locals by omega) (Nat.zero_le _) (Nat.zero_le _)
    (fun s' mk methK cK below' hWs hh hfc hcb hcm hlk' hret' => exc4 hB (State.WarmedH.trans hW hWs) hexec hold ha hO (by rw [hWs.alike.findClass]; exact hfc) hcb hcm hlk' hret' (Nat.le_refl _) (Nat.le_refl _))
  obtain ⟨t, a1, b1⟩ := W.vret (cc := prog_14_method_1_code) (pc := 9) (ls := #[.val (.ref a)]) (Qc := CQ T.heap a (XCl D t0)) (free := fun q => q = a) (args := (.ref a :: []).toArray) hexec hb hret (H := T2.heap) (fun t ht _ => ⟨rfl, by rw [ht]; exact hO2⟩) (locs := [] ++ L2) hL2 (by decide +kernel) hlk T2 rfl X2
  exact ⟨t, st2 _ a1, b1⟩
end
section
variable {Z : SS0} {D : DD} {p : Program} {l : Launch} {e : Env} {R : Room} {s : State} {m : MethodId} {args : Array Value} {below : List Frame} {meth : Method} {c : Code} {Q : State → Prop} {d y pc a : Nat} {L : AL} {st st' : List AV} {G : AH} {H : Heap} {locs : List Loc} {cells slots : Nat} {ls : Array Slot} {ad : Nat → Nat}
theorem xin12 (hB : Base Z D) (C : Ctx Z p s m meth c y) (hRd : RmD d R) (hsz : ls.size = c.maxLocals) (hc0 : mcls y = 0) (hd : decode (mcode y) pc = .ok (.invokespecial 524, 3)) (hst : st.map (cvl ad) = Value.ref (ad a) :: st'.map (cvl ad)) (ha : a < hN G) (ht : hT G a = 12 ∨ hT G a = 22) (hw : wt st' ≤ 16) (hmS : ∀ v ∈ st', v ∈ st) (S : Sim Z D ad G L st H locs ls) (hRm : Rm R cells slots G (bmp G)) (K : Nx Z D p l e R s m args below meth c Q cells slots ad G (pc + 3, L, st', bmp G)) : W p l e R s m args below meth c H locs cells slots Q (F0 m pc ls (st.map (cvl ad))) := by
  obtain ⟨hx, hb, hml, hW, hown, -, -, -⟩ := C
  rw [hc0] at hown
  rw [hst]
  intro T hT X
  subst hT
  rw [← hb] at hd
  have h3 := exc3 S.1 ht
  have hge := (S.1.2.2.1 a h3 ha).1
  obtain ⟨cell, q1, q2, q3, q4⟩ := (S.1.1 a h3 ha).2.2.1 (by rcases ht with h | h <;> rw [h] <;> decide)
  obtain ⟨m1, m2, m3, m4⟩ := q4 ht
  have hO : OneC T.heap (ad a) (XCl D (hT G a)) T.heap := ⟨rfl, fun _ _ => rfl, cell, q1, ht, q2, q3, m1, m2, m3, m4⟩
  have hwt : ((st'.map (cvl ad)).map fun v => v.category).sum = wt st' := wt_of ad st'
  have hr2 := rm_x hRd.2 hw
  have r1 : 3 + 1 ≤ R.frames := Nat.le_trans (by omega) hRd.1
  obtain ⟨T2, L2, X2, hL2, hO2, st2⟩ := ctor_call (P := XCl D (hT G a)) (R' := { frames := 3, cells := 0, slots := 0, locals := 300 }) (t := ⟨"HeardPlaces$TooMany", "<init>", "()V"⟩) (bytes := prog_14_method_1_code) (maxL := 1) (idx := 524) (a := ad a) (argsL := []) (rest := st'.map (cvl ad)) X hx hown rfl (by decide) (by decide +kernel) (hB.word hW q1286) (hB.word hW q1287) (hB.word hW q1288) (g := F0 m pc ls (Value.ref (ad a) :: st'.map (cvl ad))) rfl hsz (fun sig h => by
      revert h
      rw [show parseMethodDescriptor "()V" = some ⟨[], none⟩ by decide +kernel]
      intro h
      cases h
      rfl) rfl hd r1 (by rw [hwt]; show 2 * 0 + wt st' + (1 + 11) + 300 ≤ R.locals; exact Nat.le_trans (by rw [Nat.add_assoc]; exact Nat.add_le_add_left (by decide) _) hr2) (by have := hRm.1; rw [hC_bmp] at this; show cells + 0 ≤ _; omega) (by have := hRm.2; rw [hS_bmp] at this; show slots + 0 ≤ _; omega)
    (fun s' mk methK cK below' hWs hh hfc hcb hcm hlk' hret' => tm0 hB (State.WarmedH.trans hW hWs) hx S.1.2.2.2.2.2.2.2.2 hge hO (by rw [hWs.alike.findClass]; exact hfc) hcb hcm hlk' hret' (Nat.le_refl _) (Nat.le_refl _))
  obtain ⟨o1, o2, cell2, o3, -, x1, x2, x3, x4, x5, x6⟩ := hO2
  have hc' := xin_bmp (H' := T2.heap) S.1 h3 ha ht o1 o2 o3 x1 x2 ⟨x3, x4, x5, x6⟩
  obtain ⟨tg, hst3, hQ⟩ := K _ _ ls ad (cells + 64) (slots + 20000) (⟨hc', S.2.1, S.2.2.1, fun v hv => S.2.2.2.1 v (hmS v hv), fun q hq => by
    rcases List.mem_append.mp hq with h | h
    · exact S.2.2.2.2 q h
    · rw [hL2 q h]
      exact hge⟩) (fun _ _ => rfl) (by rw [hC_bmp]; omega) (by rw [hS_bmp]; omega) _ rfl (Stand.more X2 (Nat.le_add_right _ _) (Nat.le_add_right _ _))
  exact ⟨tg, st2 _ hst3, hQ⟩
/-- an exception's constructor -/
theorem xin_all (hB : Base Z D) (hl0 : l.stackTraces = false) : XinOK Z D l := by
  intro p e R s m args below meth c Q d y pc k a L st st' G H locs cells slots ls ad C hHp hRd hsz hc0 hk hd hst ha ht hw hmS S hRm K
  rcases hk with ⟨rfl, -⟩ | ⟨rfl, -⟩
  · exact xin22 hB hl0 C hHp hRd hsz hc0 hd hst ha ht hw hmS S K
  · exact xin12 hB C hRd hsz hc0 hd hst ha ht hw hmS S hRm K
end
