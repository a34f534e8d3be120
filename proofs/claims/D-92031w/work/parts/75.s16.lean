/-! soundness 16: the whole search; what it gives -/
def hres (pc : Nat) (tg : ExceptionTableEntry → Bool) (es : List ExceptionTableEntry) : Handler := match es.find? (fun x => covers x pc && tg x) with
  | some x => .found x.handlerPc
  | none => .none
theorem hs_go {e : Env} {s : State} {f : JFrame} {a : Addr} {cell : Cell} {tg : ExceptionTableEntry → Bool} (hobj : cell.vm.isStatics = false) (h1 : ∃ k1, s.vm.classes[cell.cls]? = some k1) : ∀ (es : List ExceptionTableEntry) (T : State), s.WarmedH T.vm → T.heap[a]? = some cell →
    (∀ x ∈ es, covers x f.pc = true → (x.catchType = 0 ∧ tg x = true) ∨ (x.catchType ≠ 0 ∧ ∃ k, s.vm.ClassLinks e.platform f.method.cls x.catchType k ∧ s.vm.assignable cell.cls k = tg x)) →
    ∃ vm', s.WarmedH vm' ∧ ∀ (Q : Handler → Pre) (E : CtlPost) (d : Bool) (acts : List Action), wp (findHandler.go f a es) Q E e d acts T ↔ Q (hres f.pc tg es) d acts (T.setVm vm')
  | [], T, hW, _, _ => ⟨T.vm, hW, fun Q E d acts => W.findHandler_go_nil⟩
  | x :: t, T, hW, hc, H => by
    have Ht := fun y hy => H y (List.mem_cons_of_mem x hy)
    cases hx : covers x f.pc with
    | false =>
      obtain ⟨vm', w1, w2⟩ := hs_go hobj h1 t T hW hc Ht
      refine ⟨vm', w1, fun Q E d acts => ?_⟩
      rw [W.findHandler_go_skip hx, w2]
      simp [hres, List.find?_cons, hx]
    | true =>
      rcases H x List.mem_cons_self hx with ⟨h0, ht⟩ | ⟨h0, k, hl, hk⟩
      · refine ⟨T.vm, hW, fun Q E d acts => ?_⟩
        rw [W.findHandler_go_any hx h0]
        simp only [hres, List.find?_cons, hx, ht, Bool.and_self]
        exact Iff.rfl
      · have hl' := hW.classLinks hl
        obtain ⟨dk, _, _, kt, hd, _, _, _, _, hkt, _, hopen⟩ := hl.here
        have hW' : s.WarmedH (T.vm.noted f.method.cls x.catchType (.cls k)) := hW.noted hd hopen (State.rightAt_cls hl)
        obtain ⟨k1, q1⟩ := h1
        obtain ⟨k1', q1', -⟩ := hW.alike.2.2 _ _ q1
        obtain ⟨kt', q2', -⟩ := hW.alike.2.2 _ _ hkt
        have has : T.vm.assignable cell.cls k = tg x := by rw [hW.alike.assignable]; exact hk
        cases htg : tg x with
        | true =>
          refine ⟨_, hW', fun Q E d acts => ?_⟩
          rw [hs_cls hx h0 hl' hc hobj ⟨k1', q1'⟩ ⟨kt', q2'⟩, has, htg, if_pos rfl]
          simp only [hres, List.find?_cons, hx, htg, Bool.and_self]
        | false =>
          obtain ⟨vm', w1, w2⟩ := hs_go hobj ⟨k1, q1⟩ t (T.setVm (T.vm.noted f.method.cls x.catchType (.cls k))) hW' hc Ht
          refine ⟨vm', w1, fun Q E d acts => ?_⟩
          rw [hs_cls hx h0 hl' hc hobj ⟨k1', q1'⟩ ⟨kt', q2'⟩, has, htg, if_neg (by decide), w2]
          simp only [hres, List.find?_cons, hx, htg, Bool.and_false]
          exact Iff.rfl
