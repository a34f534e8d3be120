/-! soundness 15: the search for a handler, its classes resolved on the way -/
section
variable {Q : Handler → Pre} {E : CtlPost} {e : Env} {d : Bool} {acts : List Action} {s : State} {f : JFrame} {a : Addr}
/-- an entry that covers the place and names a class -/
theorem hs_cls {x : ExceptionTableEntry} {t : List ExceptionTableEntry} {k : ClassId} {cell : Cell} (hx : covers x f.pc = true) (h0 : x.catchType ≠ 0) (hl : s.vm.ClassLinks e.platform f.method.cls x.catchType k) (hcell : s.heap[a]? = some cell) (hobj : cell.vm.isStatics = false) (h1 : ∃ k1, s.vm.classes[cell.cls]? = some k1) (h2 : ∃ k2, s.vm.classes[k]? = some k2) :
    wp (findHandler.go f a (x :: t)) Q E e d acts s ↔ if s.vm.assignable cell.cls k = true then Q (.found x.handlerPc) d acts (s.setVm (s.vm.noted f.method.cls x.catchType (.cls k))) else wp (findHandler.go f a t) Q E e d acts (s.setVm (s.vm.noted f.method.cls x.catchType (.cls k))) := by
  have hal := (Vm.Alike.refl s.vm).noted f.method.cls x.catchType (.cls k)
  obtain ⟨w1, w2⟩ := (resolveClass_links e.toSetting hl).op (op := VmOp.resolveClass f.method.cls x.catchType) rfl
  obtain ⟨k1, q1⟩ := h1
  obtain ⟨k2, q2⟩ := h2
  obtain ⟨k1', q1', -⟩ := hal.2.2 _ _ q1
  obtain ⟨k2', q2', -⟩ := hal.2.2 _ _ q2
  have hno : ∀ z, cell.vm ≠ .statics z := fun z hz => by rw [hz] at hobj; cases hobj
  have has : (s.vm.noted f.method.cls x.catchType (.cls k)).assignable cell.cls k = s.vm.assignable cell.cls k := hal.assignable ..
  have hc : (x.startPc ≤ f.pc ∧ f.pc < x.endPc) := by simpa [covers] using hx
  cases hb : s.vm.assignable cell.cls k <;> simp [findHandler.go, hc, h0, w1, w2, hcell, hno, q1', q2', has, hb, VmOp.dirties, VmOp.acts]
end
