/-! soundness 24: a callee is entered; behind its end -/
section
variable {p : Program} {l : Launch} {e : Env} {R : Room} {s : State} {m : MethodId} {args : Array Value} {below : List Frame} {meth : Method} {c : Code} {T : State} {locs : List Loc} {cells slots : Nat}
theorem enter (X : Stand p l e R s m args below meth c T locs cells slots) {g : JFrame} (hg : g.method = m) (hsize : g.locals.size = c.maxLocals) {ig : Instr} {len : Nat} (hdg : decode c.code g.pc = .ok (ig, len)) {x : MethodName} {mk : MethodId} {methK : Method} {cK : Code} {a : Array Value} {R' : Room}
    (hnamed : s.methodNamed? x = some mk) (hx : plainFor x = true) (hm : s.vm.method? mk = some methK) (hc : methK.code = some cK) (hlocks : methK.locks = false)
    (hframes : R'.frames + 1 ≤ R.frames) (hlocals : 2 * g.monitorRoom + (g.stack.map fun v => v.category).sum + (cK.maxLocals + 11) + R'.locals ≤ R.locals) (hcells : cells + R'.cells ≤ R.cells) (hslots : slots + R'.slots ≤ R.slots) :
    ∃ s₁ : State, Stand p l e R' (T.calling g mk a) mk a (.java g :: T.frames.tail) methK cK s₁ [] 0 0 ∧ s₁.heap = T.heap ∧ (doInvoke e (T.setTop g) [] mk a).1 = s₁.setTop (entryFrame mk a cK.maxLocals) := by
  have h : _root_.Jvm.At T g.method c below := by rw [hg]; exact X.here
  have hmT : T.vm.method? mk = some methK := by rw [X.warmed.alike.method?]; exact hm
  have hf := State.frames_calling h.top g mk a
  have hcur := State.cur_lt_of_frames hf
  have hroom := X.room_calling (g := g) (args' := a) (R' := R') hsize hmT hc hframes hlocals hcells hslots
  have hf1 : ((T.calling g mk a).setFrames (.java (entryFrame mk a cK.maxLocals) :: .java g :: T.frames.tail)).frames = .java (entryFrame mk a cK.maxLocals) :: .java g :: T.frames.tail := State.frames_setFrames _ hcur
  have ht1 := State.topJava?_of_frames hf1
  have hnamedT : (T.calling g mk a).methodNamed? x = some mk := X.named hnamed
  have hmC : (T.calling g mk a).vm.method? mk = some methK := hmT
  have hplain : ((T.calling g mk a).setFrames (.java (entryFrame mk a cK.maxLocals) :: .java g :: T.frames.tail)).plainMethod mk := State.plainMethod.of_named (s := T.calling g mk a) hx hnamedT hmC
  have hcode : (T.calling g mk a).code? g.method = some c := by
    have := h.code
    rw [State.code?_eq] at this ⊢
    simpa [State.calling, State.pushFrame, State.setFrames] using this
  have hrn : (T.calling g mk a).curStatus? = some .runnable := by simpa [State.calling] using h.runnable
  have hal : (T.calling g mk a).alone = true := by simpa [State.calling] using h.alone
  have hAt : _root_.Jvm.At ((T.calling g mk a).setFrames (.java (entryFrame mk a cK.maxLocals) :: .java g :: T.frames.tail)) mk cK (.java g :: T.frames.tail) :=
    ⟨by rw [ht1]; rfl, ⟨[], by rw [hf1]; rfl⟩, h.running, by simpa using hrn, by simpa using hal,
      by rw [State.code?_eq]; show (((T.calling g mk a).vm.method? mk).bind fun z => z.code) = some cK; rw [hmC]; exact hc, hplain⟩
  obtain ⟨t, ht, -⟩ := State.frames_cons hf
  refine ⟨(T.calling g mk a).setFrames (.java (entryFrame mk a cK.maxLocals) :: .java g :: T.frames.tail), ⟨X.admits, X.cas, X.clock, hf, hroom, ?_, hmC, hc, hAt, by rw [hf1]; rfl, State.WarmedH.refl _, by rw [State.stackLimits_setFrames], by rw [State.stackBytes_setFrames], (State.sameButNew.refl (T.calling g mk a) ht).setFrames _ hcur⟩, rfl, ?_⟩
  · simp [State.hears, hcode, hdg, Except.toOption]
  · have hfull := X.notFull (g := g) hsize (vars := cK.maxLocals) (by omega) (by omega)
    obtain ⟨g₀, hg0⟩ := Option.isSome_iff_exists.mp h.top
    obtain ⟨r, hr⟩ := State.topJava?_eq_some.mp hg0
    rw [(doInvoke_java (s := T.setTop g) (e := e) (acts := []) (meth := methK) (code := cK) (args := a) hmT hc hlocks hfull).1, State.setTop_self ht1, State.calling_eq h.top, State.setFrames_setFrames, State.pushFrame, State.frames_setTop _ hr, State.setTop_of_frames _ hr, State.setFrames_setFrames, hr]
    rfl
theorem weak {tb : Tables} {mid below' : List Frame} {a b : State} (h : Steps tb e (mid ++ below') a b) : Steps tb e below' a b := by
  obtain ⟨n, hn, w⟩ := h
  exact ⟨n, hn, fun k hk => (w k hk).weaken⟩
theorem after_of (X : Stand p l e R s m args below meth c T locs cells slots) {g : JFrame} (hg : g.method = m) {ig : Instr} {len : Nat} (hdg : decode c.code g.pc = .ok (ig, len)) {mk : MethodId} {a : Array Value} {o : Outcome} {s₂ : State} {L : List Loc} {k n : Nat}
    (hend : Ended s₂ (.java g :: T.frames.tail) o) (hW₂ : (T.calling g mk a).WarmedH s₂.vm) (hsm : (T.calling g mk a).sameButNew ({ s₂ with vm := (T.calling g mk a).vm } : State) L k n) :
    ∃ T', After p l e R s m args below meth c g len T' (locs ++ L) (cells + k) (slots + n) o s₂ := by
  have h : _root_.Jvm.At T g.method c below := by rw [hg]; exact X.here
  obtain ⟨e2, q2, q3, q4, q5, q6⟩ := hsm
  have e3 : s₂ = ({ (T.calling g mk a).setFrames s₂.frames with heap := s₂.heap, slotsUsed := s₂.slotsUsed } : State).setVm s₂.vm := by
    have : s₂ = ({ s₂ with vm := (T.calling g mk a).vm } : State).setVm s₂.vm := rfl
    rw [e2] at this
    exact this
  have hW' : T.WarmedH s₂.vm := hW₂
  obtain ⟨g₀, hg0⟩ := Option.isSome_iff_exists.mp h.top
  obtain ⟨r, hr⟩ := State.topJava?_eq_some.mp hg0
  have hsame : T.sameButNew ({ T with heap := s₂.heap, slotsUsed := s₂.slotsUsed } : State) L k n := by
    refine ⟨?_, q2, q3, q4, q5, q6⟩
    obtain ⟨t, ht, -⟩ := State.frames_cons hr
    show ({ T with heap := s₂.heap, slotsUsed := s₂.slotsUsed } : State) = { T.setFrames T.frames with heap := s₂.heap, slotsUsed := s₂.slotsUsed }
    rw [State.setFrames_self ht]
  have XX : Stand p l e R s m args below meth c (({ T with heap := s₂.heap, slotsUsed := s₂.slotsUsed } : State).setVm s₂.vm) (locs ++ L) (cells + k) (slots + n) :=
    ⟨X.admits, X.cas, X.clock, X.frames, X.room, X.hears, X.method, X.code, (X.here.setHeapUsed s₂.heap s₂.slotsUsed).setVm hW'.alike, X.tail, State.WarmedH.trans X.warmed hW', X.limits, X.bytes, X.same.trans (hsame.setVm s.vm)⟩
  have hr' : (({ T with heap := s₂.heap, slotsUsed := s₂.slotsUsed } : State).setVm s₂.vm).frames = .java g₀ :: r := hr
  refine ⟨(({ T with heap := s₂.heap, slotsUsed := s₂.slotsUsed } : State).setVm s₂.vm), XX, rfl, ?_⟩
  cases o with
  | returned v =>
    obtain ⟨c₂, i₂, len₂, hc₂, hd₂, hf₂⟩ := hend
    have hcc : c₂ = c := by
      have h1 : s₂.code? g.method = T.code? g.method := by
        rw [State.code?_eq, State.code?_eq, hW'.alike.method?]
      exact Option.some.inj (hc₂.symm.trans (h1.trans h.code))
    subst hcc
    have hlen : len₂ = len := by rw [hdg] at hd₂; cases hd₂; rfl
    subst hlen
    show s₂ = _
    refine e3.trans ?_
    rw [hf₂, State.calling_eq h.top, State.setFrames_setFrames, State.setTop_of_frames _ hr', hr]
    rfl
  | threw a' =>
    have hf₂ : s₂.frames = .throwing a' :: .java g :: T.frames.tail := hend
    show s₂ = _
    refine e3.trans ?_
    rw [hf₂, State.calling_eq h.top, State.setFrames_setFrames, State.pushFrame, State.frames_setTop _ hr', State.setTop_of_frames _ hr', State.setFrames_setFrames, hr]
    rfl
end
