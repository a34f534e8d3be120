/-! soundness 17: a thrown object: caught in the frame, or out of it -/
section
variable {p : Program} {l : Launch} {e : Env} {R : Room} {s : State} {m : MethodId} {args : Array Value} {below : List Frame} {meth : Method} {c : Code} {T : State} {locs : List Loc} {cells slots : Nat}
def FTo (e : Env) (s : State) (f : JFrame) (a : Addr) (h : Handler) (vm' : Vm) : Prop := ∀ (Q : Handler → Pre) (E : CtlPost) (d : Bool) (acts : List Action), wp (findHandler f a) Q E e d acts s ↔ Q h d acts (s.setVm vm')
theorem FTo.found {s : State} {a : Addr} {f : JFrame} {r : List Frame} {pc : Nat} {vm' : Vm} (h : FTo e s f a (.found pc) vm') : (stepThrowing e s a (.java f :: r)).Is ((s.setVm vm').setFrames (.java { f with pc := pc, stack := [.ref a] } :: r)) [] := by
  simp only [stepThrowing, searchFrame, vmDo]
  generalize hr : Sem.go _ e false [] s = res
  obtain ⟨as, rfl, ha⟩ := Sem.eq_ok_of hr (a := Handler.found pc) (s' := s.setVm vm') (acts' := []) (by simp [h _ _ _ _])
  exact ⟨rfl, ha⟩
theorem FTo.none {s : State} {a : Addr} {f : JFrame} {r : List Frame} {vm' : Vm} {meth : Method} (hm : vm'.method? f.method = some meth) (hl : meth.locks = false) (hlocked : f.locked = .none) (hentered : f.entered = []) (h : FTo e s f a .none vm') : (stepThrowing e s a (.java f :: r)).Is ((s.setVm vm').setFrames (.throwing a :: r)) [] := by
  have hm' : (s.setVm vm').vm.method? f.method = some meth := hm
  simp only [stepThrowing, searchFrame, vmDo]
  generalize hr : Sem.go _ e false [] s = res
  obtain ⟨as, rfl, ha⟩ := Sem.eq_ok_of hr (a := Handler.none) (s' := s.setVm vm') (acts' := [])
    (by cases hp : e.platform.frameOwnsMonitors <;> simp [h _ _ _ _, hm', hm, hl, hlocked, hentered, hp, leaveIfLocked])
  exact ⟨rfl, ha⟩
theorem thr_go (X : Stand p l e R s m args below meth c T locs cells slots) (a : Addr) {g : JFrame} (hg : g.method = m) (hlocked : g.locked = .none) (hentered : g.entered = []) (hlocks : meth.locks = false) {cell : Cell} {tg : ExceptionTableEntry → Bool} (hcell : T.heap[a]? = some cell) (hobj : cell.vm.isStatics = false) (h1 : ∃ k1, s.vm.classes[cell.cls]? = some k1)
    (H : ∀ x ∈ c.exceptionTable.toList, covers x g.pc = true → (x.catchType = 0 ∧ tg x = true) ∨ (x.catchType ≠ 0 ∧ ∃ k, s.vm.ClassLinks e.platform m.cls x.catchType k ∧ s.vm.assignable cell.cls k = tg x)) :
    ∃ vm', Stand p l e R s m args below meth c (T.setVm vm') locs cells slots ∧ (∀ pc, hres g.pc tg c.exceptionTable.toList = .found pc → Steps p.tables e below ((T.setTop g).pushFrame (.throwing a)) ((T.setVm vm').setTop { g with pc := pc, stack := [.ref a] })) ∧
      (hres g.pc tg c.exceptionTable.toList = .none → Steps p.tables e below ((T.setTop g).pushFrame (.throwing a)) ((T.setVm vm').setFrames (.throwing a :: below))) := by
  have h : _root_.Jvm.At T g.method c below := by rw [hg]; exact X.here
  have ev : ((T.setTop g).pushFrame (.throwing a)).vm = T.vm := throwing_vm T g a
  have eh : ((T.setTop g).pushFrame (.throwing a)).heap = T.heap := throwing_heap T g a
  have hmT : T.vm.method? g.method = some meth := by rw [hg]; exact X.method'
  obtain ⟨vm', hW', hf⟩ := hs_go (e := e) (s := s) (f := g) (a := a) (tg := tg) hobj h1 c.exceptionTable.toList ((T.setTop g).pushFrame (.throwing a)) (by rw [ev]; exact X.warmed) (by rw [eh]; exact hcell) (by rw [hg]; exact H)
  have hF : FTo e ((T.setTop g).pushFrame (.throwing a)) g a (hres g.pc tg c.exceptionTable.toList) vm' := fun Q E d acts => by
    rw [W.findHandler_eq (meth := meth) (code := c) (by rw [ev]; exact hmT) X.code]
    exact hf Q E d acts
  obtain ⟨hgo, hw⟩ := h.throwing a
  obtain ⟨g₀, hg0⟩ := Option.isSome_iff_exists.mp h.top
  obtain ⟨r, hr⟩ := State.topJava?_eq_some.mp hg0
  have hr' : (T.setVm vm').frames = .java g₀ :: r := hr
  have sw : ∀ (u : State) (F K : List Frame), ((u.setFrames F).setVm vm').setFrames K = (u.setVm vm').setFrames K := fun u F K => by
    have : (u.setFrames F).setVm vm' = (u.setVm vm').setFrames F := rfl
    rw [this, State.setFrames_setFrames]
  have hmV : vm'.method? g.method = some meth := by rw [hW'.alike.method?, hg]; exact X.method
  refine ⟨vm', X.noted hW', fun pc e1 => ?_, fun e1 => ?_⟩
  · rw [e1] at hF
    refine Steps.head hgo hw ?_
    rw [stepThread_throwing (frames_entered h.top _), (FTo.found hF).1, State.setTop_of_frames _ hr', hr, List.tail_cons, State.pushFrame, sw, State.setTop_of_frames _ hr, sw]
    exact Steps.refl _
  · rw [e1] at hF
    refine Steps.head hgo hw ?_
    rw [stepThread_throwing (frames_entered h.top _), (FTo.none hmV hlocks hlocked hentered hF).1, ← X.tail, State.pushFrame, sw, State.setTop_of_frames _ hr, sw]
    exact Steps.refl _
end
