/-! soundness 19: a method's handlers against the machine's search -/
section
variable {Z : SS0} {D : DD} {s : State}
theorem exc_cls (hB : Base Z D) (hW : Z.s.WarmedH s.vm) {t : Nat} (ht : t ∈ excT) : s.vm.findClass (cnm t) = some (D.1 t) := by
  exact (classAt_moved hW.alike (hB.2.2.2.2.1 t ht).1).1
theorem exc_asg (hB : Base Z D) (hW : Z.s.WarmedH s.vm) {t ct : Nat} (ht : t ∈ excT) (hc : ct ∈ catT) {cid : ClassId} (hf : s.vm.findClass (cnm ct) = some cid) : s.vm.assignable (D.1 t) cid = xyes t ct := by
  have h1 := exc_cls hB hW ht
  rcases xc_all t ht ct hc with ⟨e1, h | h⟩ | ⟨e1, h⟩
  · rw [h] at h1
    cases h1.symm.trans hf
    rw [e1]; exact va_asg _ _
  · obtain ⟨c0, t1, f1, f2, f3⟩ := Cond.castable_spec (va_Nw.use (A := #[]) rfl (va_Nw.warmC hW (va_Nw.of rfl (hB.1 _ h))))
    cases h1.symm.trans f1
    cases hf.symm.trans f2
    rw [e1]; exact f3
  · obtain ⟨c0, t1, f1, f2, f3⟩ := va_Nc.moved hW.alike (va_Nc.of (flat_of_before _ hB.2.1 _ h))
    cases h1.symm.trans f1
    cases hf.symm.trans f2
    rw [e1]; exact f3
end
