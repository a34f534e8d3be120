/-! soundness 43: frames below a note of the machine that are no java frame at the top -/
def Ovr (W : State) (base below : List Frame) : Prop := W.goesOn ∧ W.cur < W.threads.size ∧ ∃ mid, base = mid ++ below
section
variable {tb : Tables} {e : Env} {below base : List Frame} {W target : State} {m : MethodId} {meth : Method} {code : Code}
theorem Ovr.vm (h : Ovr W base below) (vm : Vm) : Ovr (W.setVm vm) base below := h
/-- inside of a constructor that the machine calls -/
theorem ov_in (h : Ovr W base below) (a : Addr) (J : JFrame) (hm : W.vm.method? m = some meth) (hc : meth.code = some code) (hplain : W.plainMethod m) :
    (W.setFrames (.thenThrow a :: base)).frames = .thenThrow a :: base ∧ _root_.Jvm.At ((W.setFrames (.thenThrow a :: base)).pushFrame (.java J)) m code below ∧ ((W.setFrames (.thenThrow a :: base)).pushFrame (.java J)).frames = .java J :: .thenThrow a :: base := by
  obtain ⟨⟨h1, h2, h3⟩, h4, mid, h5⟩ := h
  have f1 : (W.setFrames (.thenThrow a :: base)).frames = .thenThrow a :: base := State.frames_setFrames _ h4
  have c1 := State.cur_lt_of_frames f1
  refine ⟨f1, At.pushOn _ ⟨h1, by simpa using h2, by simpa using h3⟩ c1 ⟨.thenThrow a :: mid, by rw [f1, h5]; rfl⟩ hm hc hplain, ?_⟩
  have f2 : ((W.setFrames (.thenThrow a :: base)).pushFrame (.java J)).frames = .java J :: (W.setFrames (.thenThrow a :: base)).frames := State.frames_setFrames _ c1
  rw [f2, f1]
/-- the constructor returns: the exception is thrown -/
theorem ov_back [Ours tb] (h : Ovr W base below) (hexec : tb.exec = Jvm.exec) {H : State → State} (hH : HeapOnly H) (a : Addr) {J0 J1 : JFrame} (hm : W.vm.method? m = some meth) (hc : meth.code = some code) (hplain : W.plainMethod m) (hl : meth.locks = false) (j1 : J1.method = m) (j2 : J1.locked = none) (j3 : J1.entered = []) (hd : decode code.code J1.pc = .ok (.return_, 1))
    (hrest : Steps tb e below ((H W).setFrames (.throwing a :: base)) target) : Steps tb e below ((H ((W.setFrames (.thenThrow a :: base)).pushFrame (.java J0))).setTop J1) target := by
  subst j1
  obtain ⟨fN, hI, fI⟩ := ov_in h a J0 hm hc hplain
  obtain ⟨-, -, mid, h5⟩ := h
  have hB := hH.at_ hI
  have fH : (H ((W.setFrames (.thenThrow a :: base)).pushFrame (.java J0))).frames = .java J0 :: .thenThrow a :: base := by rw [hH.frames]; exact fI
  jvm_step hB [hexec, hd, return_.wp_sem]
  intro acts2
  rw [ret_to (t := H ((W.setFrames (.thenThrow a :: base)).pushFrame (.java J0))) (f := J1) (f₀ := J0) (below := .thenThrow a :: base) (fs := .thenThrow a :: base) (meth := meth) fH (by rw [hH.vm]; exact hm) hl j2 j3 rfl acts2]
  have eF : ∀ F, (H ((W.setFrames (.thenThrow a :: base)).pushFrame (.java J0))).setFrames F = (H W).setFrames F := fun F => by
    rw [State.pushFrame, hH.setFrames, hH.setFrames, State.setFrames_setFrames, State.setFrames_setFrames]
  have f3 : ((H ((W.setFrames (.thenThrow a :: base)).pushFrame (.java J0))).setFrames (.thenThrow a :: base)).frames = .thenThrow a :: base := State.frames_setFrames _ (State.cur_lt_of_frames fH)
  refine Steps.head ⟨hB.running, by simpa using hB.runnable, by simpa using hB.alone⟩ ⟨.thenThrow a :: mid, by rw [f3, h5]; rfl, by simp, by simp⟩ ?_
  rw [stepThread_thenThrow f3]
  show Steps tb e below (((H ((W.setFrames (.thenThrow a :: base)).pushFrame (.java J0))).setFrames (.thenThrow a :: base)).setFrames (.throwing a :: base)) target
  rw [State.setFrames_setFrames, eF]
  exact hrest
/-- an exception goes through a native method's frame -/
theorem ov_nat (h : Ovr W base below) {a : Addr} {nf : NFrame} {r : List Frame} (hb : base = .native nf :: r) (hr : ∃ mid, r = mid ++ below) (n1 : nf.awaiting = false) (n2 : nf.locked = none) (hrest : Steps tb e below (W.setFrames (.throwing a :: r)) target) : Steps tb e below (W.setFrames (.throwing a :: base)) target := by
  subst hb
  obtain ⟨⟨h1, h2, h3⟩, h4, -⟩ := h
  obtain ⟨mid, hmid⟩ := hr
  have hf : (W.setFrames (.throwing a :: .native nf :: r)).frames = .throwing a :: .native nf :: r := State.frames_setFrames _ h4
  refine Steps.head ⟨h1, by simpa using h2, by simpa using h3⟩ ⟨.throwing a :: .native nf :: mid, by rw [hf, hmid]; rfl, by simp, by simp⟩ ?_
  have e1 : (stepThread tb e (W.setFrames (.throwing a :: .native nf :: r))).1 = (W.setFrames (.throwing a :: .native nf :: r)).setFrames (.throwing a :: r) := by
    unfold stepThread
    simp only [hf]
    unfold stepThrowing
    simp only [n1, Bool.false_eq_true, if_false, n2]
    unfold vmDo
    generalize hg : Sem.go _ e false _ (W.setFrames (.throwing a :: .native nf :: r)) = res
    obtain ⟨as, rfl, -⟩ := Sem.eq_ok_of hg (a := true) (s' := W.setFrames (.throwing a :: .native nf :: r)) (acts' := []) (by simp [leaveIfLocked, unmarked, Action.isMark])
    rfl
  rw [e1, State.setFrames_setFrames]
  exact hrest
end
