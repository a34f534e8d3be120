/-! the reference's constructor: its arrays -/
/-- the first n arrays are made -/
def NB (n c z : Nat) (G H : AH) : Prop := hN H = 137 + n ∧ hT H 136 = 2 ∧ (∀ a, a < 136 → hT H a = hT G a ∧ hL H a = hL G a ∧ (∀ i, hI H a i = hI G a i) ∧ (∀ i, hJ H a i = hJ G a i) ∧ ∀ i, hR H a i = hR G a i) ∧ (∀ q ∈ msT.take n, hR H 136 q.1 = some q.2.1 ∧ hT H q.2.1 = q.2.2.1 ∧ hL H q.2.1 = q.2.2.2) ∧ (∀ a i, 136 ≤ a → a < 137 + n → hI H a i = 0 ∧ hJ H a i = 0) ∧ Gb c z G H
theorem msT_ok : ∀ n, n < msT.length → (msT.getD n (0, 0, 0, 0)).2.1 = 137 + n ∧ ∀ q ∈ msT.take n, q.1 ≠ (msT.getD n (0, 0, 0, 0)).1 ∧ q.2.1 < 137 + n ∧ 137 ≤ q.2.1 := by decide +kernel
section
variable {n c z f t l : Nat} {G H : AH}
theorem NB.step (b : NB n c z G H) (hn : n < 47) (hq : msT.getD n (0, 0, 0, 0) = (f, 137 + n, t, l)) : NB (n + 1) (c + 1) (z + l) G (sR (mkx H t l 1 l) 136 f (some (hN H))) := by
  obtain ⟨b1, b2, b3, b4, b5, b6⟩ := b
  have hlen : msT.length = 47 := by decide
  obtain ⟨m1, m2⟩ := msT_ok n (by omega)
  rw [hq] at m2
  have r1 : ∀ a i, ¬ (a = 136 ∧ i = f) → hR (sR (mkx H t l 1 l) 136 f (some (hN H))) a i = if a = hN H then none else hR H a i := fun a i y => by rw [hR_sR, if_neg y, hR_mkx]
  have r2 : ∀ a, hT (sR (mkx H t l 1 l) 136 f (some (hN H))) a = if a = hN H then t else hT H a := fun a => rfl
  have r3 : ∀ a, hL (sR (mkx H t l 1 l) 136 f (some (hN H))) a = if a = hN H then l else hL H a := fun a => rfl
  have r4 : ∀ a i, hI (sR (mkx H t l 1 l) 136 f (some (hN H))) a i = if a = hN H then 0 else hI H a i := fun a i => rfl
  have r5 : ∀ a i, hJ (sR (mkx H t l 1 l) 136 f (some (hN H))) a i = if a = hN H then 0 else hJ H a i := fun a i => rfl
  have r6 : hR (sR (mkx H t l 1 l) 136 f (some (hN H))) 136 f = some (hN H) := by rw [hR_sR, if_pos ⟨rfl, rfl⟩]
  have r7 : hN (sR (mkx H t l 1 l) 136 f (some (hN H))) = hN H + 1 := rfl
  have r8 : Gb 1 l H (sR (mkx H t l 1 l) 136 f (some (hN H))) := ⟨Nat.le_add_right _ _, Nat.le_refl _, Nat.le_add_right _ _, Nat.le_refl _⟩
  generalize sR (mkx H t l 1 l) 136 f (some (hN H)) = K at r1 r2 r3 r4 r5 r6 r7 r8 ⊢
  refine ⟨by omega, by rw [r2, if_neg (by omega)]; exact b2, fun a ha => ?_, fun q hq2 => ?_, fun a i ha ha2 => ?_, b6.trans r8⟩
  · obtain ⟨o1, o2, o3, o4, o5⟩ := b3 a ha
    exact ⟨by rw [r2, if_neg (by omega)]; exact o1, by rw [r3, if_neg (by omega)]; exact o2, fun i => by rw [r4, if_neg (by omega)]; exact o3 i, fun i => by rw [r5, if_neg (by omega)]; exact o4 i, fun i => by rw [r1 a i (by omega), if_neg (by omega)]; exact o5 i⟩
  · rw [List.take_succ, List.mem_append] at hq2
    rcases hq2 with hq2 | hq2
    · obtain ⟨g1, g2, g3⟩ := m2 q hq2
      obtain ⟨v1, v2, v3⟩ := b4 q hq2
      exact ⟨by rw [r1 _ _ (fun y => g1 y.2), if_neg (by omega)]; exact v1, by rw [r2, if_neg (by omega)]; exact v2, by rw [r3, if_neg (by omega)]; exact v3⟩
    · have : q = (f, 137 + n, t, l) := by
        rw [List.getD_eq_getElem?_getD] at hq
        cases e : msT[n]? with
        | none => rw [e] at hq2; cases hq2
        | some y =>
          rw [e] at hq2 hq
          have : q = y := by simpa using hq2
          rw [this]; exact hq
      subst this
      exact ⟨by rw [r6, b1], by rw [r2, if_pos (show 137 + n = hN H by omega)], by rw [r3, if_pos (show 137 + n = hN H by omega)]⟩
  · rw [r4, r5]
    by_cases e : a = hN H
    · rw [if_pos e, if_pos e]; exact ⟨rfl, rfl⟩
    · rw [if_neg e, if_neg e]; exact b5 a i ha (by omega)
end
