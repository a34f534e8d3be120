/-! the class's constructor: what is there so far -/
/-- cells up to n are made; the ints are V -/
def YB (n c z : Nat) (V : Nat → Nat → Int32) (G H : AH) : Prop := hN H = n ∧ hT H 3 = 0 ∧ (∀ a, a < 3 → hT H a = hT G a ∧ hL H a = hL G a ∧ (∀ i, hI H a i = hI G a i) ∧ (∀ i, hJ H a i = hJ G a i) ∧ ∀ i, hR H a i = hR G a i) ∧ (∀ q ∈ xsT, q.2.1 < n → hR H 3 q.1 = some q.2.1 ∧ hT H q.2.1 = q.2.2.1 ∧ hL H q.2.1 = q.2.2.2) ∧ (∀ q ∈ xsU, q.2.2.1 < n → hR H q.1 q.2.1 = some q.2.2.1 ∧ hT H q.2.2.1 = q.2.2.2.1 ∧ hL H q.2.2.1 = q.2.2.2.2) ∧ (∀ a i, 3 ≤ a → a < n → (a ≠ 107 ∨ i < 24) → hI H a i = V a i) ∧ (∀ a i, n ≤ a → V a i = 0) ∧ (∀ i, hJ H 3 i = 0) ∧ (∀ a i, a = 121 ∨ (123 ≤ a ∧ a ≤ 130) ∨ (132 ≤ a ∧ a ≤ 135) → a < n → hR H a i = none) ∧ (∀ a, a = 5 ∨ a = 6 → a < n → hR H a 139 = some 1) ∧ 4 ≤ n ∧ Gb c z G H
theorem xsT_inj : ∀ q ∈ xsT, ∀ r ∈ xsT, q.1 = r.1 → q.2.1 = r.2.1 := by decide +kernel
theorem xsT_adr : ∀ q ∈ xsT, ∀ r ∈ xsT, q.2.1 = r.2.1 → q = r := by decide +kernel
theorem xsU_ok : ∀ q ∈ xsU, q.1 ≠ 3 ∧ 3 ≤ q.1 ∧ q.1 < q.2.2.1 ∧ q.1 ≠ 107 := by decide +kernel
/-- a Place[] is made -/
def Plc (k : Nat) (G K : AH) : Prop := hN K = hN G + 1 + k ∧ (∀ a, a < hN G → hT K a = hT G a ∧ hL K a = hL G a ∧ (∀ j, hI K a j = hI G a j) ∧ (∀ j, hJ K a j = hJ G a j) ∧ ∀ j, hR K a j = hR G a j) ∧ (hT K (hN G) = 54 ∧ hL K (hN G) = k) ∧ (∀ j, j < k → hR K (hN G) j = some (hN G + 1 + j) ∧ hT K (hN G + 1 + j) = 1 ∧ hL K (hN G + 1 + j) = 0) ∧ (∀ a i, hN G ≤ a → a < hN G + 1 + k → hI K a i = 0) ∧ (∀ a i, hN G < a → a < hN G + 1 + k → hR K a i = none) ∧ Gb (1 + k) (2 * k) G K
section
variable {n n' c z c' z' f t l : Nat} {V : Nat → Nat → Int32} {G H K : AH} {d : Nat}
theorem YB.ext (b : YB n c z V G H) (hn : n < n') (hN' : hN K = n') (old : ∀ a, a < n → hT K a = hT H a ∧ hL K a = hL H a ∧ (∀ i, hI K a i = hI H a i) ∧ (∀ i, hJ K a i = hJ H a i) ∧ ∀ i, ¬ (a = 3 ∧ i = f) → hR K a i = hR H a i) (h3 : hR K 3 f = some n) (ht : hT K n = t) (hl : hL K n = l) (hq : (f, n, t, l) ∈ xsT) (hx : ∀ q ∈ xsT, q.2.1 < n' → q.2.1 ≤ n) (hu : ∀ q ∈ xsU, n ≤ q.2.2.1 → q.2.2.1 < n' → hR K q.1 q.2.1 = some q.2.2.1 ∧ hT K q.2.2.1 = q.2.2.2.1 ∧ hL K q.2.2.1 = q.2.2.2.2) (h0 : ∀ a i, n ≤ a → a < n' → hI K a i = 0) (hr : ∀ a i, a = 121 ∨ (123 ≤ a ∧ a ≤ 130) ∨ (132 ≤ a ∧ a ≤ 135) → n ≤ a → a < n' → hR K a i = none) (h5 : ∀ a, a = 5 ∨ a = 6 → n ≤ a → a < n' → hR K a 139 = some 1) (g : Gb c' z' H K) : YB n' (c + c') (z + z') V G K := by
  obtain ⟨b1, b2, b3, b4, b5, b6, b7, b8, b9, b10, b11, b12⟩ := b
  refine ⟨hN', (old 3 (by omega)).1.trans b2, fun a ha => ?_, fun q hq2 hlt => ?_, fun q hq2 hlt => ?_, fun a i g1 g2 g3 => ?_, fun a i g1 => b7 a i (by omega), fun i => ((old 3 (by omega)).2.2.2.1 i).trans (b8 i), fun a i g1 g2 => ?_, fun a g1 g2 => ?_, by omega, b12.trans g⟩
  · obtain ⟨o1, o2, o3, o4, o5⟩ := b3 a ha
    obtain ⟨p1, p2, p3, p4, p5⟩ := old a (by omega)
    exact ⟨p1.trans o1, p2.trans o2, fun i => (p3 i).trans (o3 i), fun i => (p4 i).trans (o4 i), fun i => (p5 i (by omega)).trans (o5 i)⟩
  · have hle := hx q hq2 hlt
    by_cases e : q.2.1 = n
    · have hf : q = (f, n, t, l) := xsT_adr q hq2 _ hq e
      subst hf
      exact ⟨h3, ht, hl⟩
    · obtain ⟨v1, v2, v3⟩ := b4 q hq2 (by omega)
      have hne : q.1 ≠ f := fun y => e (xsT_inj q hq2 _ hq y)
      obtain ⟨p1, p2, -, -, -⟩ := old q.2.1 (by omega)
      exact ⟨((old 3 (by omega)).2.2.2.2 _ (fun y => hne y.2)).trans v1, p1.trans v2, p2.trans v3⟩
  · by_cases e : q.2.2.1 < n
    · obtain ⟨v1, v2, v3⟩ := b5 q hq2 e
      obtain ⟨u1, u2, u3, u4⟩ := xsU_ok q hq2
      obtain ⟨p1, p2, -, -, -⟩ := old q.2.2.1 e
      exact ⟨((old q.1 (by omega)).2.2.2.2 _ (fun y => u1 y.1)).trans v1, p1.trans v2, p2.trans v3⟩
    · exact hu q hq2 (by omega) hlt
  · by_cases e : a < n
    · exact ((old a e).2.2.1 i).trans (b6 a i g1 e g3)
    · rw [h0 a i (by omega) g2, b7 a i (by omega)]
  · by_cases e : a < n
    · exact ((old a e).2.2.2.2 i (by omega)).trans (b9 a i g1 e)
    · exact hr a i g1 (by omega) g2
  · by_cases e : a < n
    · exact ((old a e).2.2.2.2 _ (by omega)).trans (b10 a g1 e)
    · exact h5 a g1 (by omega) g2
/-- an array is made and put into a field -/
theorem YB.arr (b : YB n c z V G H) (hq : (f, n, t, l) ∈ xsT) (hx : ∀ q ∈ xsT, q.2.1 < n + 1 → q.2.1 ≤ n) (hu : ∀ q ∈ xsU, q.2.2.1 ≠ n) (h5 : n ≠ 5 ∧ n ≠ 6) : YB (n + 1) (c + 1) (z + l) V G (sR (mkx H t l 1 l) 3 f (some (hN H))) := by
  have r1 : ∀ a i, ¬ (a = 3 ∧ i = f) → hR (sR (mkx H t l 1 l) 3 f (some (hN H))) a i = if a = hN H then none else hR H a i := fun a i y => by rw [hR_sR, if_neg y, hR_mkx]
  have r2 : ∀ a, hT (sR (mkx H t l 1 l) 3 f (some (hN H))) a = if a = hN H then t else hT H a := fun a => rfl
  have r3 : ∀ a, hL (sR (mkx H t l 1 l) 3 f (some (hN H))) a = if a = hN H then l else hL H a := fun a => rfl
  have r4 : ∀ a i, hI (sR (mkx H t l 1 l) 3 f (some (hN H))) a i = if a = hN H then 0 else hI H a i := fun a i => rfl
  have r5 : ∀ a i, hJ (sR (mkx H t l 1 l) 3 f (some (hN H))) a i = if a = hN H then 0 else hJ H a i := fun a i => rfl
  have r6 : hR (sR (mkx H t l 1 l) 3 f (some (hN H))) 3 f = some (hN H) := by rw [hR_sR, if_pos ⟨rfl, rfl⟩]
  have r7 : hN (sR (mkx H t l 1 l) 3 f (some (hN H))) = hN H + 1 := rfl
  have r8 : Gb 1 l H (sR (mkx H t l 1 l) 3 f (some (hN H))) := ⟨Nat.le_add_right _ _, Nat.le_refl _, Nat.le_add_right _ _, Nat.le_refl _⟩
  generalize sR (mkx H t l 1 l) 3 f (some (hN H)) = K at r1 r2 r3 r4 r5 r6 r7 r8 ⊢
  have b1 := b.1
  have b11 := b.2.2.2.2.2.2.2.2.2.2.1
  refine b.ext (f := f) (t := t) (l := l) (Nat.lt_succ_self n) (by omega) (fun a ha => ⟨by rw [r2, if_neg (by omega)], by rw [r3, if_neg (by omega)], fun i => by rw [r4, if_neg (by omega)], fun i => by rw [r5, if_neg (by omega)], fun i hi => by rw [r1 a i hi, if_neg (by omega)]⟩) (by rw [r6, b1]) (by rw [r2, if_pos b1.symm]) (by rw [r3, if_pos b1.symm]) hq hx (fun q hq2 g1 g2 => absurd (show q.2.2.1 = n by omega) (hu q hq2)) (fun a i g1 g2 => by rw [r4, if_pos (by omega)]) (fun a i g0 g1 g2 => by rw [r1 a i (by omega), if_pos (by omega)]) (fun a g0 g1 g2 => by omega) r8
/-- a list is made and put into a field -/
theorem YB.lst (b : YB n c z V G H) (hq : (f, n, 16, 0) ∈ xsT) (hx : ∀ q ∈ xsT, q.2.1 < n + 1 → q.2.1 ≤ n) (hu : ∀ q ∈ xsU, q.2.2.1 ≠ n) (h5 : n = 5 ∨ n = 6) (hf : f ≠ 139) : YB (n + 1) (c + 1) (z + 100) V G (sR (sR (sI (mkx H 16 0 1 3) (hN H) 138 (nI 0)) (hN H) 139 (some 1)) 3 f (some (hN H))) := by
  have b1 := b.1
  have b11 := b.2.2.2.2.2.2.2.2.2.2.1
  obtain ⟨⟨p1, p2, p3, p4, p5, p6, p7⟩, p8, p9⟩ := pt_list (H := H) (x := 3) (f := f) (by omega) hf
  have hi : ∀ i, hI (sR (sR (sI (mkx H 16 0 1 3) (hN H) 138 (nI 0)) (hN H) 139 (some 1)) 3 f (some (hN H))) (hN H) i = 0 := fun i => by
    show hI (sI (mkx H 16 0 1 3) (hN H) 138 (nI 0)) (hN H) i = 0
    rw [hI_sI]
    split
    · rfl
    · rw [hI_mkx, if_pos rfl]
  generalize sR (sR (sI (mkx H 16 0 1 3) (hN H) 138 (nI 0)) (hN H) 139 (some 1)) 3 f (some (hN H)) = K at p1 p3 p4 p5 p6 p7 p8 p9 hi ⊢
  rw [b1] at p1 p3 p4 p5 p6 p9 hi
  refine b.ext (f := f) (t := 16) (l := 0) (Nat.lt_succ_self n) p1 p3 p4 p5 p6 hq hx (fun q hq2 g1 g2 => absurd (show q.2.2.1 = n by omega) (hu q hq2)) (fun a i g1 g2 => ?_) (fun a i g0 g1 g2 => by omega) (fun a g0 g1 g2 => ?_) p7
  · have : a = n := by omega
    rw [this]; exact hi i
  · have : a = n := by omega
    rw [this]; exact p9
/-- a grid's heap -/
theorem grid_ok {t2 m k : Nat} : ∃ K, mkGrid H t t2 m k = K ∧ hN K = hN H + 1 + m ∧ (∀ a, a < hN H → hT K a = hT H a ∧ hL K a = hL H a ∧ (∀ j, hI K a j = hI H a j) ∧ (∀ j, hJ K a j = hJ H a j) ∧ ∀ j, hR K a j = hR H a j) ∧ hT K (hN H) = t ∧ hL K (hN H) = m ∧ (∀ j, j < m → hR K (hN H) j = some (hN H + 1 + j) ∧ hT K (hN H + 1 + j) = t2 ∧ hL K (hN H + 1 + j) = k) ∧ (∀ a j, hN H ≤ a → a < hN H + 1 + m → hI K a j = 0) ∧ Gb (1 + m) (m + m * k) H K := by
  have R := rows_ok (o := hN H) (t2 := t2) (k := k) m 0 (mkx H t m 1 m) (Nat.lt_succ_self _)
  have r2 : ∀ a, hT (mkx H t m 1 m) a = if a = hN H then t else hT H a := fun a => rfl
  have r3 : ∀ a, hL (mkx H t m 1 m) a = if a = hN H then m else hL H a := fun a => rfl
  have r4 : ∀ a i, hI (mkx H t m 1 m) a i = if a = hN H then 0 else hI H a i := fun a i => rfl
  have r5 : ∀ a i, hJ (mkx H t m 1 m) a i = if a = hN H then 0 else hJ H a i := fun a i => rfl
  have r6 : ∀ a i, hR (mkx H t m 1 m) a i = if a = hN H then none else hR H a i := fun a i => rfl
  have r7 : hN (mkx H t m 1 m) = hN H + 1 := rfl
  have r8 : Gb 1 m H (mkx H t m 1 m) := ⟨Nat.le_add_right _ _, Nat.le_refl _, Nat.le_add_right _ _, Nat.le_refl _⟩
  refine ⟨mkRows (hN H) t2 k m 0 (mkx H t m 1 m), rfl, ?_⟩
  generalize mkx H t m 1 m = M at R r2 r3 r4 r5 r6 r7 r8 ⊢
  generalize mkRows (hN H) t2 k m 0 M = K at R ⊢
  obtain ⟨q1, q2, q3, q4, q5⟩ := R
  rw [r7] at q1 q2 q3 q4
  refine ⟨q1, fun a ha => ?_, ?_, ?_, fun j hj => ?_, fun a j g1 g2 => ?_, r8.trans q5⟩
  · obtain ⟨o1, o2, o3, o4, o5⟩ := q2 a (by omega)
    exact ⟨by rw [o1, r2, if_neg (by omega)], by rw [o2, r3, if_neg (by omega)], fun j => by rw [o3, r4, if_neg (by omega)], fun j => by rw [o4, r5, if_neg (by omega)], fun j => by rw [o5 j (by omega), r6, if_neg (by omega)]⟩
  · rw [(q2 _ (by omega)).1, r2, if_pos rfl]
  · rw [(q2 _ (by omega)).2.1, r3, if_pos rfl]
  · have := q3 j hj
    rw [Nat.zero_add] at this
    exact this
  · by_cases e : a = hN H
    · rw [e, (q2 _ (by omega)).2.2.1, r4, if_pos rfl]
    · exact (q4 a j (by omega) g2).1
theorem YB.grid {t2 m k : Nat} (b : YB n c z V G H) (hq : (f, n, t, m) ∈ xsT) (hx : ∀ q ∈ xsT, q.2.1 < n + 1 + m → q.2.1 ≤ n) (hu : ∀ q ∈ xsU, n ≤ q.2.2.1 → q.2.2.1 < n + 1 + m → q.1 = n ∧ q.2.1 < m ∧ q.2.2.1 = n + 1 + q.2.1 ∧ q.2.2.2.1 = t2 ∧ q.2.2.2.2 = k) (h5 : 6 < n ∧ n + 1 + m ≤ 121) : ∃ M, mkGrid H t t2 m k = M ∧ hT M 3 = 0 ∧ YB (n + 1 + m) (c + (1 + m)) (z + (m + m * k)) V G (sR M 3 f (some (hN H))) := by
  have b1 := b.1
  have b11 := b.2.2.2.2.2.2.2.2.2.2.1
  obtain ⟨M, e, m1, m2, m3, m4, m5, m6, m7⟩ := grid_ok (H := H) (t := t) (t2 := t2) (m := m) (k := k)
  rw [b1] at m1 m2 m3 m4 m5 m6
  have r1 : ∀ a i, ¬ (a = 3 ∧ i = f) → hR (sR M 3 f (some (hN H))) a i = hR M a i := fun a i y => by rw [hR_sR, if_neg y]
  have r2 : ∀ a, hT (sR M 3 f (some (hN H))) a = hT M a := fun a => rfl
  have r3 : ∀ a, hL (sR M 3 f (some (hN H))) a = hL M a := fun a => rfl
  have r4 : ∀ a i, hI (sR M 3 f (some (hN H))) a i = hI M a i := fun a i => rfl
  have r5 : ∀ a i, hJ (sR M 3 f (some (hN H))) a i = hJ M a i := fun a i => rfl
  have r6 : hR (sR M 3 f (some (hN H))) 3 f = some (hN H) := by rw [hR_sR, if_pos ⟨rfl, rfl⟩]
  have r7 : hN (sR M 3 f (some (hN H))) = hN M := rfl
  have r8 : Gb (1 + m) (m + m * k) H (sR M 3 f (some (hN H))) := m7
  refine ⟨M, e, (m2 3 (by omega)).1.trans b.2.1, ?_⟩
  generalize sR M 3 f (some (hN H)) = K at r1 r2 r3 r4 r5 r6 r7 r8 ⊢
  refine b.ext (f := f) (t := t) (l := m) (by omega) (by omega) (fun a ha => ?_) (by rw [r6, b1]) (by rw [r2]; exact m3) (by rw [r3]; exact m4) hq hx (fun q hq2 g1 g2 => ?_) (fun a i g1 g2 => by rw [r4]; exact m6 a i g1 g2) (fun a i g0 g1 g2 => by omega) (fun a g0 g1 g2 => by omega) r8
  · obtain ⟨o1, o2, o3, o4, o5⟩ := m2 a ha
    exact ⟨by rw [r2]; exact o1, by rw [r3]; exact o2, fun i => by rw [r4]; exact o3 i, fun i => by rw [r5]; exact o4 i, fun i hi => by rw [r1 a i hi]; exact o5 i⟩
  · obtain ⟨u1, u2, u3, u4, u5⟩ := hu q hq2 g1 g2
    obtain ⟨v1, v2, v3⟩ := m5 q.2.1 u2
    rw [u1, u3, u4, u5, r1 _ _ (by omega), r2, r3]
    exact ⟨v1, v2, v3⟩
theorem YB.plc {k : Nat} {M : AH} (b : YB n c z V G H) (p : Plc k H M) (hq : (f, n, 54, k) ∈ xsT) (hx : ∀ q ∈ xsT, q.2.1 < n + 1 + k → q.2.1 ≤ n) (hu : ∀ q ∈ xsU, n ≤ q.2.2.1 → q.2.2.1 < n + 1 + k → q.1 = n ∧ q.2.1 < k ∧ q.2.2.1 = n + 1 + q.2.1 ∧ q.2.2.2.1 = 1 ∧ q.2.2.2.2 = 0) (h5 : n = 122 ∨ n = 131) : YB (n + 1 + k) (c + (1 + k)) (z + 2 * k) V G (sR M 3 f (some (hN H))) := by
  have b1 := b.1
  obtain ⟨m1, m2, ⟨m3, m4⟩, m5, m6, m6', m7⟩ := p
  rw [b1] at m1 m2 m3 m4 m5 m6 m6'
  have r1 : ∀ a i, ¬ (a = 3 ∧ i = f) → hR (sR M 3 f (some (hN H))) a i = hR M a i := fun a i y => by rw [hR_sR, if_neg y]
  have r2 : ∀ a, hT (sR M 3 f (some (hN H))) a = hT M a := fun a => rfl
  have r3 : ∀ a, hL (sR M 3 f (some (hN H))) a = hL M a := fun a => rfl
  have r4 : ∀ a i, hI (sR M 3 f (some (hN H))) a i = hI M a i := fun a i => rfl
  have r5 : ∀ a i, hJ (sR M 3 f (some (hN H))) a i = hJ M a i := fun a i => rfl
  have r6 : hR (sR M 3 f (some (hN H))) 3 f = some (hN H) := by rw [hR_sR, if_pos ⟨rfl, rfl⟩]
  have r7 : hN (sR M 3 f (some (hN H))) = hN M := rfl
  have r8 : Gb (1 + k) (2 * k) H (sR M 3 f (some (hN H))) := m7
  generalize sR M 3 f (some (hN H)) = K at r1 r2 r3 r4 r5 r6 r7 r8 ⊢
  refine b.ext (f := f) (t := 54) (l := k) (by omega) (by omega) (fun a ha => ?_) (by rw [r6, b1]) (by rw [r2]; exact m3) (by rw [r3]; exact m4) hq hx (fun q hq2 g1 g2 => ?_) (fun a i g1 g2 => by rw [r4]; exact m6 a i g1 g2) (fun a i g0 g1 g2 => by rw [r1 a i (by omega)]; exact m6' a i (by omega) g2) (fun a g0 g1 g2 => by omega) r8
  · obtain ⟨o1, o2, o3, o4, o5⟩ := m2 a ha
    exact ⟨by rw [r2]; exact o1, by rw [r3]; exact o2, fun i => by rw [r4]; exact o3 i, fun i => by rw [r5]; exact o4 i, fun i hi => by rw [r1 a i hi]; exact o5 i⟩
  · obtain ⟨u1, u2, u3, u4, u5⟩ := hu q hq2 g1 g2
    obtain ⟨v1, v2, v3⟩ := m5 q.2.1 u2
    rw [u1, u3, u4, u5, r1 _ _ (by omega), r2, r3]
    exact ⟨v1, v2, v3⟩
/-- an int of the object is written -/
theorem YB.int {v : Int32} (b : YB n c z V G H) : YB n c z (fun a j => if a = 3 ∧ j = f then v else V a j) G (sI H 3 f v) := by
  obtain ⟨b1, b2, b3, b4, b5, b6, b7, b8, b9, b10, b11, b12⟩ := b
  have r4 : ∀ a i, hI (sI H 3 f v) a i = if a = 3 ∧ i = f then v else hI H a i := fun a i => rfl
  refine ⟨b1, b2, fun a ha => ?_, b4, b5, fun a i g1 g2 g3 => ?_, fun a i g1 => ?_, b8, b9, b10, b11, b12⟩
  · obtain ⟨o1, o2, o3, o4, o5⟩ := b3 a ha
    exact ⟨o1, o2, fun i => by rw [r4, if_neg (by omega)]; exact o3 i, o4, o5⟩
  · rw [r4]
    show _ = (if a = 3 ∧ i = f then v else V a i)
    by_cases e : a = 3 ∧ i = f
    · rw [if_pos e, if_pos e]
    · rw [if_neg e, if_neg e]; exact b6 a i g1 g2 g3
  · show (if a = 3 ∧ i = f then v else V a i) = 0
    rw [if_neg (by omega)]; exact b7 a i g1
/-- the map is filled -/
theorem YB.fill (b : YB n c z V G H) (hn : 107 < n) (fr : Fr (fun q => q = 107) H K) (g : Gb 0 0 H K) (hN' : hN K = hN H) (h : ∀ i, i < 24 → hI K 107 i = -9) : YB n c z (fun a j => if a = 107 then -9 else V a j) G K := by
  obtain ⟨b1, b2, b3, b4, b5, b6, b7, b8, b9, b10, b11, b12⟩ := b
  obtain ⟨f1, f2, f3⟩ := fr
  rw [b1] at f2 f3
  have hx1 : ∀ q ∈ xsT, 3 ≤ q.2.1 := by decide +kernel
  refine ⟨by omega, (f2 3 (by omega)).1.trans b2, fun a ha => ?_, fun q hq hlt => ?_, fun q hq hlt => ?_, fun a i g1 g2 g3 => ?_, fun a i g1 => ?_, fun i => ((f3 3 (by omega) (by omega)).2.1 i).trans (b8 i), fun a i g1 g2 => ((f3 a g2 (by omega)).2.2 i).trans (b9 a i g1 g2), fun a g1 g2 => ((f3 a g2 (by omega)).2.2 _).trans (b10 a g1 g2), b11, b12.trans g⟩
  · obtain ⟨o1, o2, o3, o4, o5⟩ := b3 a ha
    obtain ⟨p1, p2, p3⟩ := f3 a (by omega) (by omega)
    obtain ⟨q1, q2⟩ := f2 a (by omega)
    exact ⟨q1.trans o1, q2.trans o2, fun i => (p1 i).trans (o3 i), fun i => (p2 i).trans (o4 i), fun i => (p3 i).trans (o5 i)⟩
  · obtain ⟨v1, v2, v3⟩ := b4 q hq hlt
    obtain ⟨q1, q2⟩ := f2 q.2.1 hlt
    exact ⟨((f3 3 (by omega) (by omega)).2.2 _).trans v1, q1.trans v2, q2.trans v3⟩
  · obtain ⟨v1, v2, v3⟩ := b5 q hq hlt
    obtain ⟨u1, u2, u3, u4⟩ := xsU_ok q hq
    obtain ⟨q1, q2⟩ := f2 q.2.2.1 hlt
    exact ⟨((f3 q.1 (by omega) u4).2.2 _).trans v1, q1.trans v2, q2.trans v3⟩
  · show hI K a i = if a = 107 then -9 else V a i
    by_cases e : a = 107
    · rw [if_pos e, e]; exact h i (by omega)
    · rw [if_neg e, (f3 a g2 e).1 i]; exact b6 a i g1 g2 g3
  · show (if a = 107 then -9 else V a i) = 0
    rw [if_neg (by omega)]; exact b7 a i g1
theorem x_placeInit {p : Nat} : cl d 276 [vr (some p)] G = some (.inl none, G) := by
  rw [en276]
  simp (disch := omega) only [rX1_init_0, rX1_init_1, rX1_init_4, psh_some, psh_none, bnd_r1, bnd_r0, b01_0, b01_1, lg_lt, lg_eq, lg_gt, lg_ge, lg_le, reduceIte, Bool.false_eq_true, and_true, true_and, and_false, false_and, not_true_eq_false, not_false_eq_true, eq_self, nI_add, nI_mul, nI_div, nI_irm, nI_subk, inb_ok, ix_ok, nI_lt_t, nI_lt_f, nI_le_t, nI_le_f, nI_eq_t, nI_eq_f, nI_z, ifb, ifbn, b01_bI, b01_n, Nat.reduceEqDiff, nl_l, nl_n, nl_i, nl_r, Bool.true_eq_false, reduceIte, if_true, if_false]
theorem x_places {k : Nat} (hk : k ≤ 100) (hd : 1 ≤ d) : ∃ K, cl d 2 [vi (nI k)] G = some (.inl (some (vr (some (hN G)))), K) ∧ Plc k G K := by
  rw [en2, rX0_places_0, rX0_places_1, if_pos ⟨by show nI 0 ≤ nI k; rw [nI_leb (by omega) (by omega)]; omega, by show nI k ≤ nI 65536; rw [nI_leb (by omega) (by omega)]; omega⟩, ix_ok (by omega)]
  simp (disch := omega) only [rX0_places_4, rX0_places_5, rX0_places_6, psh_some, psh_none, bnd_r1, bnd_r0, b01_0, b01_1, lg_lt, lg_eq, lg_gt, lg_ge, lg_le, reduceIte, Bool.false_eq_true, and_true, true_and, and_false, false_and, not_true_eq_false, not_false_eq_true, eq_self, nI_add, nI_mul, nI_div, nI_irm, nI_subk, inb_ok, ix_ok, nI_lt_t, nI_lt_f, nI_le_t, nI_le_f, nI_eq_t, nI_eq_f, nI_z, ifb, ifbn, b01_bI, b01_n, Nat.reduceEqDiff, nl_l, nl_n, nl_i, nl_r, Bool.true_eq_false, reduceIte, if_true, if_false]
  have r2 : ∀ a, hT (mkx G 54 k 1 k) a = if a = hN G then 54 else hT G a := fun a => rfl
  have r3 : ∀ a, hL (mkx G 54 k 1 k) a = if a = hN G then k else hL G a := fun a => rfl
  have r4 : ∀ a i, hI (mkx G 54 k 1 k) a i = if a = hN G then 0 else hI G a i := fun a i => rfl
  have r5 : ∀ a i, hJ (mkx G 54 k 1 k) a i = if a = hN G then 0 else hJ G a i := fun a i => rfl
  have r6 : ∀ a i, hR (mkx G 54 k 1 k) a i = if a = hN G then none else hR G a i := fun a i => rfl
  have r7 : hN (mkx G 54 k 1 k) = hN G + 1 := rfl
  have r8 : Gb 1 k G (mkx G 54 k 1 k) := ⟨Nat.le_add_right _ _, Nat.le_refl _, Nat.le_add_right _ _, Nat.le_refl _⟩
  generalize mkx G 54 k 1 k = M0 at r2 r3 r4 r5 r6 r7 r8 ⊢
  refine lpQ (P := fun i M => At d 2 7 [some (vi (nI k)), some (vr (some (hN G))), some (vi (nI i))] [] M) (Q := fun q => ∃ K, q = some (.inl (some (vr (some (hN G)))), K) ∧ Plc k G K) (fun i M => hN M = hN G + 1 + i ∧ (∀ a, a < hN G → hT M a = hT G a ∧ hL M a = hL G a ∧ (∀ j, hI M a j = hI G a j) ∧ (∀ j, hJ M a j = hJ G a j) ∧ ∀ j, hR M a j = hR G a j) ∧ (hT M (hN G) = 54 ∧ hL M (hN G) = k) ∧ (∀ j, j < i → hR M (hN G) j = some (hN G + 1 + j) ∧ hT M (hN G + 1 + j) = 1 ∧ hL M (hN G + 1 + j) = 0) ∧ (∀ a j, hN G ≤ a → a < hN G + 1 + i → hI M a j = 0) ∧ (∀ a j, hN G < a → a < hN G + 1 + i → hR M a j = none) ∧ Gb (1 + i) (k + i) G M) k ?_ ?_ (Nat.zero_le _) ⟨r7, fun a ha => ⟨by rw [r2, if_neg (by omega)], by rw [r3, if_neg (by omega)], fun j => by rw [r4, if_neg (by omega)], fun j => by rw [r5, if_neg (by omega)], fun j => by rw [r6, if_neg (by omega)]⟩, ⟨by rw [r2, if_pos rfl], by rw [r3, if_pos rfl]⟩, fun j hj => by omega, fun a j g1 g2 => by rw [r4, if_pos (by omega)], fun a j g1 g2 => by omega, r8.mono (by omega) (by omega)⟩
  · rintro i M hi ⟨a1, a2, ⟨a3, a4⟩, a5, a6, a7, a8⟩ ih
    clear r2 r3 r4 r5 r6 r7 r8
    have s2 : ∀ a, hT (mkx M 1 0 1 1) a = if a = hN M then 1 else hT M a := fun a => rfl
    have s3 : ∀ a, hL (mkx M 1 0 1 1) a = if a = hN M then 0 else hL M a := fun a => rfl
    have s4 : ∀ a i, hI (mkx M 1 0 1 1) a i = if a = hN M then 0 else hI M a i := fun a i => rfl
    have s5 : ∀ a i, hJ (mkx M 1 0 1 1) a i = if a = hN M then 0 else hJ M a i := fun a i => rfl
    have s6 : ∀ a i, hR (mkx M 1 0 1 1) a i = if a = hN M then none else hR M a i := fun a i => rfl
    have s7 : hN (mkx M 1 0 1 1) = hN M + 1 := rfl
    have s8 : Gb 1 1 M (mkx M 1 0 1 1) := ⟨Nat.le_add_right _ _, Nat.le_refl _, Nat.le_add_right _ _, Nat.le_refl _⟩
    rw [rX0_places_7]
    simp (disch := omega) only [rX0_places_8, rX0_places_9, rX0_places_12, rX0_places_13, rX0_places_14, rX0_places_17, psh_some, psh_none, bnd_r1, bnd_r0, b01_0, b01_1, lg_lt, lg_eq, lg_gt, lg_ge, lg_le, reduceIte, Bool.false_eq_true, and_true, true_and, and_false, false_and, not_true_eq_false, not_false_eq_true, eq_self, nI_add, nI_mul, nI_div, nI_irm, nI_subk, inb_ok, ix_ok, nI_lt_t, nI_lt_f, nI_le_t, nI_le_f, nI_eq_t, nI_eq_f, nI_z, ifb, ifbn, b01_bI, b01_n, Nat.reduceEqDiff, nl_l, nl_n, nl_i, nl_r, Bool.true_eq_false, reduceIte, if_true, if_false]
    generalize mkx M 1 0 1 1 = N at s2 s3 s4 s5 s6 s7 s8 ⊢
    rw [rX0_places_18 (by omega), x_placeInit]
    simp (disch := omega) only [psh_some, psh_none, bnd_r1, bnd_r0, b01_0, b01_1, lg_lt, lg_eq, lg_gt, lg_ge, lg_le, reduceIte, Bool.false_eq_true, and_true, true_and, and_false, false_and, not_true_eq_false, not_false_eq_true, eq_self, nI_add, nI_mul, nI_div, nI_irm, nI_subk, inb_ok, ix_ok, nI_lt_t, nI_lt_f, nI_le_t, nI_le_f, nI_eq_t, nI_eq_f, nI_z, ifb, ifbn, b01_bI, b01_n, Nat.reduceEqDiff, nl_l, nl_n, nl_i, nl_r, Bool.true_eq_false, reduceIte, if_true, if_false]
    have t1 : hT N (hN G) = 54 := by rw [s2, if_neg (by omega)]; exact a3
    have t2 : hL N (hN G) = k := by rw [s3, if_neg (by omega)]; exact a4
    have t3 : hT N (hN M) = 1 := by rw [s2, if_pos rfl]
    have t4 : okA N 54 (some (hN M)) = true := by
      unfold okA
      dsimp only
      rw [t3]; rfl
    rw [rX0_places_21, t1, t2, if_pos t4, if_pos (inb_ok hi (by omega)), ix_ok (by omega)]
    have u1 : ∀ a j, hR (sR N (hN G) i (some (hN M))) a j = if a = hN G ∧ j = i then some (hN M) else hR N a j := fun a j => rfl
    have u2 : ∀ a, hT (sR N (hN G) i (some (hN M))) a = hT N a := fun a => rfl
    have u3 : ∀ a, hL (sR N (hN G) i (some (hN M))) a = hL N a := fun a => rfl
    have u4 : ∀ a j, hI (sR N (hN G) i (some (hN M))) a j = hI N a j := fun a j => rfl
    have u5 : ∀ a j, hJ (sR N (hN G) i (some (hN M))) a j = hJ N a j := fun a j => rfl
    have u7 : hN (sR N (hN G) i (some (hN M))) = hN N := rfl
    have u8 : Gb 1 1 M (sR N (hN G) i (some (hN M))) := s8
    generalize sR N (hN G) i (some (hN M)) = K at u1 u2 u3 u4 u5 u7 u8 ⊢
    simp (disch := omega) only [rX0_places_22, rX0_places_25, psh_some, psh_none, bnd_r1, bnd_r0, b01_0, b01_1, lg_lt, lg_eq, lg_gt, lg_ge, lg_le, reduceIte, Bool.false_eq_true, and_true, true_and, and_false, false_and, not_true_eq_false, not_false_eq_true, eq_self, nI_add, nI_mul, nI_div, nI_irm, nI_subk, inb_ok, ix_ok, nI_lt_t, nI_lt_f, nI_le_t, nI_le_f, nI_eq_t, nI_eq_f, nI_z, ifb, ifbn, b01_bI, b01_n, Nat.reduceEqDiff, nl_l, nl_n, nl_i, nl_r, Bool.true_eq_false, reduceIte, if_true, if_false]
    refine ih K ⟨by omega, fun a ha => ?_, ⟨by rw [u2]; exact t1, by rw [u3]; exact t2⟩, fun j hj => ?_, fun a j g1 g2 => ?_, fun a j g1 g2 => ?_, (a8.trans u8).mono (by omega) (by omega)⟩
    · obtain ⟨o1, o2, o3, o4, o5⟩ := a2 a ha
      exact ⟨by rw [u2, s2, if_neg (by omega)]; exact o1, by rw [u3, s3, if_neg (by omega)]; exact o2, fun j => by rw [u4, s4, if_neg (by omega)]; exact o3 j, fun j => by rw [u5, s5, if_neg (by omega)]; exact o4 j, fun j => by rw [u1, if_neg (by omega), s6, if_neg (by omega)]; exact o5 j⟩
    · by_cases e : j = i
      · subst e
        exact ⟨by rw [u1, if_pos ⟨rfl, rfl⟩, a1], by rw [u2, s2, if_pos (by omega)], by rw [u3, s3, if_pos (by omega)]⟩
      · obtain ⟨v1, v2, v3⟩ := a5 j (by omega)
        exact ⟨by rw [u1, if_neg (by omega), s6, if_neg (by omega)]; exact v1, by rw [u2, s2, if_neg (by omega)]; exact v2, by rw [u3, s3, if_neg (by omega)]; exact v3⟩
    · rw [u4, s4]
      by_cases e : a = hN M
      · rw [if_pos e]
      · rw [if_neg e]; exact a6 a j g1 (by omega)
    · rw [u1, if_neg (by omega), s6]
      by_cases e : a = hN M
      · rw [if_pos e]
      · rw [if_neg e]; exact a7 a j g1 (by omega)
  · rintro M ⟨a1, a2, a3, a5, a6, a7, a8⟩
    rw [rX0_places_7]
    simp (disch := omega) only [rX0_places_8, rX0_places_9, rX0_places_28, rX0_places_29, psh_some, psh_none, bnd_r1, bnd_r0, b01_0, b01_1, lg_lt, lg_eq, lg_gt, lg_ge, lg_le, reduceIte, Bool.false_eq_true, and_true, true_and, and_false, false_and, not_true_eq_false, not_false_eq_true, eq_self, nI_add, nI_mul, nI_div, nI_irm, nI_subk, inb_ok, ix_ok, nI_lt_t, nI_lt_f, nI_le_t, nI_le_f, nI_eq_t, nI_eq_f, nI_z, ifb, ifbn, b01_bI, b01_n, Nat.reduceEqDiff, nl_l, nl_n, nl_i, nl_r, Bool.true_eq_false, reduceIte, if_true, if_false]
    exact ⟨M, rfl, a1, a2, a3, a5, a6, a7, a8.mono (by omega) (by omega)⟩
end
