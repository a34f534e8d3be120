/-! soundness 20: what a method's word says; the handlers -/
def MF (s : State) (y : Nat) (m : MethodId) (meth : Method) (c : Code) : Prop :=
  s.methodNamed? (mnm y) = some m ∧ s.vm.method? m = some meth ∧ meth.code = some c ∧ c.code = mcode y ∧ c.maxLocals = mmax y ∧ meth.sig.returnType = mrt y ∧ meth.locks = false ∧ c.exceptionTable.toList.map (fun h => (h.startPc, h.endPc, h.handlerPc, h.catchType)) = hhT y ∧ parseMethodDescriptor (mnm y).desc = some meth.sig
theorem mn_cls : ∀ y, y < 357 → (mnm y).cls = cnm (mcls y) ∧ (minit y = true → (mnm y).name = "<init>") := by decide +kernel
theorem mn_plain : ∀ y, y < 357 → plainFor (mnm y) = true := by decide +kernel
def tagOf (y k : Nat) : Nat := (clsR (kf (mcls y) k)).getD 0
def tagL (ct : Nat) : List Nat := if ct = 25 then [22, 25] else [ct]
theorem hh_tb : ∀ y, y < 357 → (decide (mhnd y = (hhT y).map (fun q => (q.1, q.2.1, q.2.2.1, tagL (tagOf y q.2.2.2)))) && (hhT y).all (fun q => !(q.2.2.2 == 0) && (clsR (kf (mcls y) q.2.2.2) == some (tagOf y q.2.2.2) && catT.contains (tagOf y q.2.2.2)))) = true := by decide +kernel
theorem hh_tab (y : Nat) (h : y < 357) : mhnd y = (hhT y).map (fun q => (q.1, q.2.1, q.2.2.1, tagL (tagOf y q.2.2.2))) ∧ ∀ q ∈ hhT y, q.2.2.2 ≠ 0 ∧ clsR (kf (mcls y) q.2.2.2) = some (tagOf y q.2.2.2) ∧ tagOf y q.2.2.2 ∈ catT := by
  have h1 := hh_tb y h
  rw [Bool.and_eq_true, decide_eq_true_eq, List.all_eq_true] at h1
  refine ⟨h1.1, fun q hq => ?_⟩
  have h2 := h1.2 q hq
  simpa using h2
theorem tagL_xyes : ∀ t ∈ excT, ∀ c ∈ catT, (tagL c).contains t = xyes t c := by decide
theorem catN : ∀ c ∈ catT, clN c = cnm c := by decide +kernel
theorem find_congr {α : Type} {p q : α → Bool} : ∀ l : List α, (∀ x ∈ l, p x = q x) → l.find? p = l.find? q
  | [], _ => rfl
  | x :: l, h => by
    rw [List.find?_cons, List.find?_cons, h x List.mem_cons_self, find_congr l fun z hz => h z (List.mem_cons_of_mem _ hz)]
section
variable {Z : SS0} {D : DD} {p : Program} {e : Env} {s : State} {m : MethodId} {meth : Method} {c : Code} {y : Nat}
theorem mf_at (hB : Base Z D) (hW : Z.s.WarmedH s.vm) (h0 : 0 < y) (h1 : y < 357) : ∃ m meth c, MF s y m meth c := by
  rcases cw_all y h0 h1 with ⟨h, e⟩ | h
  · have h2 := hB.word (args := #[]) hW h
    obtain ⟨m, hn⟩ := Cond.named_of_code h2
    obtain ⟨meth, c, a1, a2, a3, a4, a5, a6, a7, a8⟩ := Cond.code_spec hn h2
    exact ⟨m, meth, c, hn, a1, a2, a3, a4, a5, a6, by rw [e, Array.isEmpty_iff.mp a7]; rfl, a8⟩
  · obtain ⟨m, meth, c, hn, a1, a2, a3, a4, a5, a6, a7, a8⟩ := Cond.codeWith_spec (hB.word (args := #[]) hW h)
    exact ⟨m, meth, c, hn, a1, a2, a3, a4, a6, a7, a5, a8⟩
theorem ctx_of (hx : p.tables.exec = Jvm.exec) (hW : Z.s.WarmedH s.vm) (h1 : y < 357) (M : MF s y m meth c) : Ctx Z p s m meth c y := by
  obtain ⟨hn, a1, a2, a3, a4, a5, a6, a7, a8⟩ := M
  refine ⟨hx, a3, a4, hW, ?_, a5, a6, fun h => ?_⟩
  · rw [← (mn_cls y h1).1]; exact findClass_of_methodNamed hn
  · rw [(name_of_methodNamed hn a1).1]; exact (mn_cls y h1).2 h
theorem hh_ok (hB : Base Z D) (hW : Z.s.WarmedH s.vm) (hown : s.vm.findClass (cnm (mcls y)) = some m.cls) (h1 : y < 357) {es : List ExceptionTableEntry} (hh : es.map (fun h => (h.startPc, h.endPc, h.handlerPc, h.catchType)) = hhT y) {t pc : Nat} (ht : t ∈ excT) (hpl : e.platform.magicAccessors = ({} : Platform).magicAccessors) :
    (∀ x ∈ es, x.catchType ≠ 0 ∧ ∃ k, s.vm.ClassLinks e.platform m.cls x.catchType k ∧ s.vm.assignable (D.1 t) k = xyes t (tagOf y x.catchType)) ∧
    hres pc (fun x => xyes t (tagOf y x.catchType)) es = (match hnd y pc t with | some h => Handler.found h | none => Handler.none) := by
  obtain ⟨t1, t2⟩ := hh_tab y h1
  have hm : ∀ x ∈ es, x.catchType ≠ 0 ∧ clsR (kf (mcls y) x.catchType) = some (tagOf y x.catchType) ∧ tagOf y x.catchType ∈ catT := fun x hx => by
    have h2 : (x.startPc, x.endPc, x.handlerPc, x.catchType) ∈ hhT y := by rw [← hh]; exact List.mem_map.mpr ⟨x, hx, rfl⟩
    exact t2 _ h2
  refine ⟨fun x hx => ?_, ?_⟩
  · obtain ⟨n0, h2, h3⟩ := hm x hx
    refine ⟨n0, ?_⟩
    obtain ⟨k, hf, hl⟩ := Cond.classLink_spec hown (hB.word (args := #[]) hW (cl_all h2)) e.platform hpl
    rw [catN _ h3] at hf
    exact ⟨k, hl, exc_asg hB hW ht h3 hf⟩
  · have e1 : hnd y pc t = (es.find? (fun x => covers x pc && xyes t (tagOf y x.catchType))).map (fun x => x.handlerPc) := by
      unfold hnd
      rw [t1, ← hh, List.map_map, List.find?_map, Option.map_map]
      rw [find_congr (q := fun x => covers x pc && xyes t (tagOf y x.catchType)) es fun x hx => ?_]
      · rfl
      · obtain ⟨n0, h2, h3⟩ := hm x hx
        show (decide (x.startPc ≤ pc) && decide (pc < x.endPc) && (tagL (tagOf y x.catchType)).contains t) = _
        rw [tagL_xyes t ht _ h3]
    rw [e1]
    unfold hres
    cases es.find? (fun x => covers x pc && xyes t (tagOf y x.catchType)) <;> rfl
end
