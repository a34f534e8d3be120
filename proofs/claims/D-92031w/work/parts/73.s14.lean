/-! soundness 14: behind a call, whatever the callee answers -/
section
variable {p : Program} {l : Launch} {e : Env} {R : Room} {s : State} {m : MethodId} {args : Array Value} {below : List Frame} {meth : Method} {c : Code} {T : State} {locs : List Loc} {cells slots : Nat}
/-- where the walk stands behind a call -/
def After (p : Program) (l : Launch) (e : Env) (R : Room) (s : State) (m : MethodId) (args : Array Value) (below : List Frame) (meth : Method) (c : Code) (g : JFrame) (len : Nat) (T' : State) (locs : List Loc) (cells slots : Nat) (o : Outcome) (s₂ : State) : Prop :=
  Stand p l e R s m args below meth c T' locs cells slots ∧ T'.heap = s₂.heap ∧ match o with
    | .returned v => s₂ = T'.setTop { g with pc := g.pc + len, stack := v.toList ++ g.stack }
    | .threw a => s₂ = (T'.setTop g).pushFrame (.throwing a)
theorem call_any (X : Stand p l e R s m args below meth c T locs cells slots) {yN : MethodName} {S : Spec} {P : Array Value → State → Prop} {K : Program → Env → List Frame → State → Array Value → Prop} {Qc : Array Value → State → Outcome → State → Prop}
    (hM : MetFree l yN S P K Qc) {g : JFrame} (hg : g.method = m) {ig : Instr} {len : Nat} (hdg : decode c.code g.pc = .ok (ig, len)) {mk : MethodId} {a : Array Value}
    (happ : S.appliesLoose yN e.platform (T.calling g mk a) = true) (hP : P a (T.calling g mk a)) (hK : K p e (T.setTop g).frames (T.calling g mk a) a)
    (hQ : ∀ o t, Qc a (T.calling g mk a) o t → ∃ L k n, (T.calling g mk a).WarmedH t.vm ∧ (T.calling g mk a).sameButNew ({ t with vm := (T.calling g mk a).vm } : State) L k n ∧ L = L) :
    ∃ o s₂ L k n T', Steps p.tables e below (doInvoke e (T.setTop g) [] mk a).1 s₂ ∧ Qc a (T.calling g mk a) o s₂ ∧ (T.calling g mk a).sameButNew ({ s₂ with vm := (T.calling g mk a).vm } : State) L k n ∧ After p l e R s m args below meth c g len T' (locs ++ L) (cells + k) (slots + n) o s₂ := by
  have h : _root_.Jvm.At T g.method c below := by rw [hg]; exact X.here
  obtain ⟨mid, hmid⟩ := h.above
  have hfr : (T.setTop g).frames = (.java g :: mid) ++ below := by rw [State.frames_setTop' g h.top, hmid]; rfl
  obtain ⟨o, s₂, hsteps, -, hend, hq⟩ := Steps.callFree hM p X.admits X.cas X.clock (acts := []) hfr happ hP hK
  rw [State.frames_setTop' g h.top] at hend
  obtain ⟨L, k, n, hW₂, hsm, -⟩ := hQ _ _ hq
  have hsm0 := hsm
  obtain ⟨e2, q2, q3, q4, q5, q6⟩ := hsm
  have e3 : s₂ = ({ (T.calling g mk a).setFrames s₂.frames with heap := s₂.heap, slotsUsed := s₂.slotsUsed } : State).setVm s₂.vm := by
    have : s₂ = ({ s₂ with vm := (T.calling g mk a).vm } : State).setVm s₂.vm := rfl
    rw [e2] at this
    exact this
  have hW' : T.WarmedH s₂.vm := hW₂
  obtain ⟨g₀, hg0⟩ := Option.isSome_iff_exists.mp h.top
  obtain ⟨r, hr⟩ := State.topJava?_eq_some.mp hg0
  have hsame : T.sameButNew ({ T with heap := s₂.heap, slotsUsed := s₂.slotsUsed } : State) L k n := by
    refine ⟨?_, q2, q3, q4, q5, q6⟩
    obtain ⟨t, ht, -⟩ := State.frames_cons hr
    show ({ T with heap := s₂.heap, slotsUsed := s₂.slotsUsed } : State) = { T.setFrames T.frames with heap := s₂.heap, slotsUsed := s₂.slotsUsed }
    rw [State.setFrames_self ht]
  have XX : Stand p l e R s m args below meth c (({ T with heap := s₂.heap, slotsUsed := s₂.slotsUsed } : State).setVm s₂.vm) (locs ++ L) (cells + k) (slots + n) :=
    ⟨X.admits, X.cas, X.clock, X.frames, X.room, X.hears, X.method, X.code, (X.here.setHeapUsed s₂.heap s₂.slotsUsed).setVm hW'.alike, X.tail, State.WarmedH.trans X.warmed hW', X.limits, X.bytes, X.same.trans (hsame.setVm s.vm)⟩
  have hr' : (({ T with heap := s₂.heap, slotsUsed := s₂.slotsUsed } : State).setVm s₂.vm).frames = .java g₀ :: r := hr
  refine ⟨o, s₂, L, k, n, (({ T with heap := s₂.heap, slotsUsed := s₂.slotsUsed } : State).setVm s₂.vm), hsteps, hq, hsm0, XX, rfl, ?_⟩
  cases o with
  | returned v =>
    obtain ⟨c₂, i₂, len₂, hc₂, hd₂, hf₂⟩ := hend
    have hcc : c₂ = c := by
      have h1 : s₂.code? g.method = T.code? g.method := by
        rw [State.code?_eq, State.code?_eq, hW'.alike.method?]
      exact Option.some.inj (hc₂.symm.trans (h1.trans h.code))
    subst hcc
    have hlen : len₂ = len := by rw [hdg] at hd₂; cases hd₂; rfl
    subst hlen
    show s₂ = _
    refine e3.trans ?_
    rw [hf₂, State.calling_eq h.top, State.setFrames_setFrames, State.setTop_of_frames _ hr', hr]
    rfl
  | threw a' =>
    have hf₂ : s₂.frames = .throwing a' :: .java g :: T.frames.tail := hend
    show s₂ = _
    refine e3.trans ?_
    rw [hf₂, State.calling_eq h.top, State.setFrames_setFrames, State.pushFrame, State.frames_setTop _ hr', State.setTop_of_frames _ hr', State.setFrames_setFrames, hr]
    rfl
end
