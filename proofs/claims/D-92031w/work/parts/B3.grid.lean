/-! a grid that is made -/
/-- what rows i .. of the grid o leave and make -/
def Rws (o t2 k n i : Nat) (G K : AH) : Prop := hN K = hN G + n ∧ (∀ a, a < hN G → hT K a = hT G a ∧ hL K a = hL G a ∧ (∀ j, hI K a j = hI G a j) ∧ (∀ j, hJ K a j = hJ G a j) ∧ ∀ j, ¬ (a = o ∧ i ≤ j ∧ j < i + n) → hR K a j = hR G a j) ∧ (∀ j, j < n → hR K o (i + j) = some (hN G + j) ∧ hT K (hN G + j) = t2 ∧ hL K (hN G + j) = k) ∧ (∀ a j, hN G ≤ a → a < hN G + n → hI K a j = 0 ∧ hJ K a j = 0) ∧ Gb n (n * k) G K
section
variable {G K : AH}
theorem rows_1 {o t2 k i : Nat} (ho : o < hN G) : Rws o t2 k 1 i G (sR (mkx G t2 k 1 k) o i (some (hN G))) := by
  have r1 : ∀ a j, ¬ (a = o ∧ j = i) → hR (sR (mkx G t2 k 1 k) o i (some (hN G))) a j = if a = hN G then none else hR G a j := fun a j y => by rw [hR_sR, if_neg y, hR_mkx]
  have r2 : ∀ a, hT (sR (mkx G t2 k 1 k) o i (some (hN G))) a = if a = hN G then t2 else hT G a := fun a => rfl
  have r3 : ∀ a, hL (sR (mkx G t2 k 1 k) o i (some (hN G))) a = if a = hN G then k else hL G a := fun a => rfl
  have r4 : ∀ a j, hI (sR (mkx G t2 k 1 k) o i (some (hN G))) a j = if a = hN G then 0 else hI G a j := fun a j => rfl
  have r5 : ∀ a j, hJ (sR (mkx G t2 k 1 k) o i (some (hN G))) a j = if a = hN G then 0 else hJ G a j := fun a j => rfl
  have r6 : hR (sR (mkx G t2 k 1 k) o i (some (hN G))) o i = some (hN G) := by rw [hR_sR, if_pos ⟨rfl, rfl⟩]
  have r7 : hN (sR (mkx G t2 k 1 k) o i (some (hN G))) = hN G + 1 := rfl
  have r8 : Gb 1 k G (sR (mkx G t2 k 1 k) o i (some (hN G))) := ⟨Nat.le_add_right _ _, Nat.le_refl _, Nat.le_add_right _ _, Nat.le_refl _⟩
  generalize sR (mkx G t2 k 1 k) o i (some (hN G)) = K at r1 r2 r3 r4 r5 r6 r7 r8 ⊢
  refine ⟨r7, fun a ha => ⟨by rw [r2, if_neg (by omega)], by rw [r3, if_neg (by omega)], fun j => by rw [r4, if_neg (by omega)], fun j => by rw [r5, if_neg (by omega)], fun j hj => by rw [r1 a j (by omega), if_neg (by omega)]⟩, fun j hj => ?_, fun a j h1 h2 => by rw [r4, r5, if_pos (by omega), if_pos (by omega)]; exact ⟨rfl, rfl⟩, by rw [Nat.one_mul]; exact r8⟩
  have : j = 0 := by omega
  subst this
  exact ⟨r6, by rw [r2, if_pos (by omega)], by rw [r3, if_pos (by omega)]⟩
theorem Rws.cat {o t2 k n i : Nat} {M : AH} (ho : o < hN G) (a : Rws o t2 k 1 i G K) (b : Rws o t2 k n (i + 1) K M) : Rws o t2 k (n + 1) i G M := by
  obtain ⟨a1, a2, a3, a4, a5⟩ := a
  obtain ⟨b1, b2, b3, b4, b5⟩ := b
  refine ⟨by omega, fun x hx => ?_, fun j hj => ?_, fun x j h1 h2 => ?_, ?_⟩
  · obtain ⟨p1, p2, p3, p4, p5⟩ := a2 x hx
    obtain ⟨q1, q2, q3, q4, q5⟩ := b2 x (by omega)
    exact ⟨q1.trans p1, q2.trans p2, fun j => (q3 j).trans (p3 j), fun j => (q4 j).trans (p4 j), fun j hj => (q5 j (by omega)).trans (p5 j (by omega))⟩
  · by_cases e : j = 0
    · subst e
      obtain ⟨p1, p2, p3⟩ := a3 0 (by omega)
      obtain ⟨q1, q2, -, -, -⟩ := b2 (hN G + 0) (by omega)
      exact ⟨((b2 o (by omega)).2.2.2.2 _ (by omega)).trans p1, q1.trans p2, q2.trans p3⟩
    · obtain ⟨q1, q2, q3⟩ := b3 (j - 1) (by omega)
      rw [show i + 1 + (j - 1) = i + j by omega, show hN K + (j - 1) = hN G + j by omega] at q1
      rw [show hN K + (j - 1) = hN G + j by omega] at q2 q3
      exact ⟨q1, q2, q3⟩
  · by_cases e : x < hN K
    · obtain ⟨-, -, q3, q4, -⟩ := b2 x e
      rw [q3, q4]; exact a4 x j h1 (by omega)
    · exact b4 x j (by omega) (by omega)
  · have := a5.trans b5
    rw [← Nat.add_mul, Nat.add_comm 1 n] at this
    exact this
theorem rows_ok {o t2 k : Nat} : ∀ (n i : Nat) (G : AH), o < hN G → Rws o t2 k n i G (mkRows o t2 k n i G)
  | 0, i, G, _ => ⟨rfl, fun _ _ => ⟨rfl, rfl, fun _ => rfl, fun _ => rfl, fun _ _ => rfl⟩, fun j hj => by omega, fun a j h1 h2 => by omega, Gb.refl G⟩
  | n + 1, i, G, ho => by
    have a := rows_1 (t2 := t2) (k := k) (i := i) ho
    exact a.cat ho (rows_ok n (i + 1) _ (by rw [a.1]; omega))
end
