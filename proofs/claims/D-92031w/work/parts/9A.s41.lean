/-! soundness 41: a constructor's call that changes one cell alone -/
def OneC (H : Heap) (a : Addr) (P : Cell → Prop) (H' : Heap) : Prop := H'.size = H.size ∧ (∀ q, q ≠ a → H'[q]? = H[q]?) ∧ ∃ cell : Cell, H'[a]? = some cell ∧ P cell
def CQ (H : Heap) (a : Addr) (P : Cell → Prop) : Array Value → State → Outcome → State → Prop := fun _ _ o t => o = .returned none ∧ OneC H a P t.heap
section
variable {p : Program} {l : Launch} {e : Env} {R : Room} {s : State} {m : MethodId} {args : Array Value} {below : List Frame} {meth : Method} {c : Code} {T : State} {locs : List Loc} {cells slots : Nat}
theorem ctor_call {own : String} {idx maxL : Nat} {t : MethodName} {bytes : ByteArray} {g : JFrame} {a : Addr} {argsL rest : List Value} {R' : Room} {P : Cell → Prop} (X : Stand p l e R s m args below meth c T locs cells slots) (hexec : p.tables.exec = Jvm.exec) (hown : s.vm.findClass own = some m.cls) (ht1 : t.name = "<init>") (hnot : t.cls ≠ "java/lang/invoke/MethodHandle" ∧ t.cls ≠ "java/lang/invoke/VarHandle") (hx : plainFor t = true)
    (hlink : (Cond.methodLink own idx t).before args s = true) (hinst : (Cond.instanceMethod t).before args s = true) (hcode : (Cond.code t bytes maxL none).before args s = true) (hg : g.method = m) (hsize : g.locals.size = c.maxLocals) (hlen : ∀ sig, parseMethodDescriptor t.desc = some sig → argsL.length = sig.parameters.length) (hstack : g.stack = argsL.reverse ++ .ref a :: rest) (hd : decode c.code g.pc = .ok (.invokespecial idx, 3))
    (hframes : R'.frames + 1 ≤ R.frames) (hlocals : 2 * { g with stack := rest : JFrame }.monitorRoom + (rest.map fun v => v.category).sum + (maxL + 11) + R'.locals ≤ R.locals) (hcells : cells + R'.cells ≤ R.cells) (hslots : slots + R'.slots ≤ R.slots)
    (hbody : ∀ (s' : State) (mk : MethodId) (methK : Method) (cK : Code) (below' : List Frame), s.WarmedH s'.vm → s'.heap = T.heap → s.vm.findClass t.cls = some mk.cls → cK.code = bytes → cK.maxLocals = maxL → methK.locks = false → methK.sig.returnType = none → W p l e R' s' mk (.ref a :: argsL).toArray below' methK cK T.heap [] 0 0 (MQ below' (CQ T.heap a P) (.ref a :: argsL).toArray s' 0 0 (fun q => q = a)) (entryFrame mk (.ref a :: argsL).toArray maxL)) :
    ∃ (T2 : State) (L : List Loc), Stand p l e R s m args below meth c T2 (locs ++ L) cells slots ∧ (∀ q ∈ L, q.base = a) ∧ OneC T.heap a P T2.heap ∧ ∀ target, Steps p.tables e below (T2.setTop { g with pc := g.pc + 3, stack := rest }) target → Steps p.tables e below (T.setTop g) target := by
  have hpl : e.platform.magicAccessors = ({} : Platform).magicAccessors := by rw [X.admits.platform]
  obtain ⟨tm, methC, cd, k, vm', hn, hm, hc, hcb, hcm, hlk, hk, hkn, hW', st1⟩ := Steps.initColdArgs (tb := p.tables) (e := e) (below := below) (s := s) (U := T) X.here hexec X.warmed hpl hown ht1 hnot hlink hinst hcode (f := g) hg hlen hstack hd
  obtain ⟨methC', cd', hm', hc', -, -, hret, -⟩ := Cond.code_spec hn hcode
  cases hm.symm.trans hm'
  cases hc.symm.trans hc'
  have X1 := X.noted hW'
  obtain ⟨s₁, Y, hs1, hdo⟩ := enter X1 (g := { g with stack := rest }) hg hsize hd hn hx hm hc hlk (a := (.ref a :: argsL).toArray) (R' := R') hframes (by rw [hcm]; exact hlocals) hcells hslots
  obtain ⟨tgt, hsteps, o, hrun, hend, ⟨ho, hOne⟩, L, ⟨⟨v, hv⟩, hWU, hsame⟩, hfree⟩ := hbody _ tm methC cd _ (by exact hW') (by rfl) (findClass_of_methodNamed hn) hcb hcm hlk hret s₁ hs1 Y
  subst ho
  obtain ⟨T', XT, hheap, hAft⟩ := after_of X1 (g := { g with stack := rest }) hg hd hend hWU hsame
  refine ⟨T', L, XT, hfree, by rw [hheap]; exact hOne, fun target hrest => st1 target fun acts => ?_⟩
  rw [doInvoke_state]
  have hdo' : (doInvoke e ((T.setVm vm').setTop { g with stack := rest }) [] tm (.ref a :: argsL).toArray).1 = s₁.setTop (entryFrame tm (.ref a :: argsL).toArray cd.maxLocals) := hdo
  rw [hdo', hcm]
  have h1 : Steps p.tables e below (s₁.setTop (entryFrame tm (.ref a :: argsL).toArray maxL)) tgt := by
    obtain ⟨mid, hmid⟩ := X1.here.above
    have htl : (T.setVm vm').frames.tail = below := X1.tail
    have := hsteps
    rw [htl] at this
    exact weak (mid := [.java { g with stack := rest }]) this
  have h2 : tgt = T'.setTop { g with pc := g.pc + 3, stack := rest } := hAft
  exact h1.trans (by rw [h2]; exact hrest)
end
