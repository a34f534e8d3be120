/-! pure laws 3: one step of narrowing -/
def anyC (p : Nat → Bool) : Bool := (List.range 64).any p
theorem anyC_iff {p : Nat → Bool} : anyC p = true ↔ ∃ e, e < 64 ∧ p e = true := by
  unfold anyC
  rw [List.any_eq_true]
  exact ⟨fun ⟨e, he, h⟩ => ⟨e, List.mem_range.mp he, h⟩, fun ⟨e, he, h⟩ => ⟨e, List.mem_range.mpr he, h⟩⟩
theorem anyC_f {p : Nat → Bool} : anyC p = false ↔ wd p = 0 := by
  rw [wd_eq0]
  constructor
  · intro h c hc
    cases hp : p c with
    | false => rfl
    | true => rw [anyC_iff.mpr ⟨c, hc, hp⟩] at h; cases h
  · intro h
    cases hp : anyC p with
    | false => rfl
    | true =>
      obtain ⟨e, he, q⟩ := anyC_iff.mp hp
      rw [h e he] at q
      cases q
/-- what stays of A by what B has -/
def styA (k : Nat → Nat → Bool) (A B : Nat → Bool) : Nat → Bool := fun c => A c && anyC (fun e => k c e && B e)
def styB (k : Nat → Nat → Bool) (A B : Nat → Bool) : Nat → Bool := fun e => B e && anyC (fun c => k c e && A c)
def up2 (X : Nat → Nat → Bool) (a b : Nat) (A B : Nat → Bool) : Nat → Nat → Bool := fun t => if t = a then A else if t = b then B else X t
/-- a family that holds all stable ones below T -/
def Big (t n : Nat) (U : Nat → Bool) (a b : Nat → Nat) (K : Nat → Nat → Nat → Bool) (T X : Nat → Nat → Bool) : Prop := SubF t X T ∧ ∀ Y, SubF t Y T → Stb n U a b K Y → SubF t Y X
section
variable {t n m : Nat} {U : Nat → Bool} {a b : Nat → Nat} {K : Nat → Nat → Nat → Bool} {T X : Nat → Nat → Bool}
theorem Big.twin (h : Big t n U a b K T X) (hm : m < n) (hu : U m = true) (ha : a m < t) (hb : b m < t) : Big t n U a b K T (up2 X (a m) (b m) (styA (K m) (X (a m)) (X (b m))) (styB (K m) (X (a m)) (X (b m)))) := by
  refine ⟨fun i hi c hc q => h.1 i hi c hc ?_, fun Y h1 h2 i hi c hc q => ?_⟩
  · unfold up2 at q
    split at q
    · next e => rw [e]; unfold styA at q; simp at q; exact q.1
    · split at q
      · next e => rw [e]; unfold styB at q; simp at q; exact q.1
      · exact q
  · have hx := h.2 Y h1 h2
    obtain ⟨s1, s2⟩ := h2 m hm hu
    unfold up2
    split
    · next e =>
      subst e
      obtain ⟨e, he, w1, w2⟩ := s1 c hc q
      unfold styA
      rw [hx _ ha c hc q, Bool.true_and, anyC_iff]
      exact ⟨e, he, by rw [w2, hx _ hb e he w1]; rfl⟩
    · split
      · next e =>
        subst e
        obtain ⟨e, he, w1, w2⟩ := s2 c hc q
        unfold styB
        rw [hx _ hb c hc q, Bool.true_and, anyC_iff]
        exact ⟨e, he, by rw [w2, hx _ ha e he w1]; rfl⟩
      · exact hx i hi c hc q
theorem Big.comp (h : Big t n U a b K T X) (hm : m < n) (hu : U m = true) (ha : a m < t) (hb : b m < t) : Big t n U a b K T (up2 X (a m) (b m) (styA (K m) (X (a m)) (X (b m))) (styB (K m) (styA (K m) (X (a m)) (X (b m))) (X (b m)))) := by
  refine ⟨fun i hi c hc q => h.1 i hi c hc ?_, fun Y h1 h2 i hi c hc q => ?_⟩
  · unfold up2 at q
    split at q
    · next e => rw [e]; unfold styA at q; simp at q; exact q.1
    · split at q
      · next e => rw [e]; unfold styB at q; simp at q; exact q.1
      · exact q
  · have hx := h.2 Y h1 h2
    obtain ⟨s1, s2⟩ := h2 m hm hu
    have hA : ∀ c, c < 64 → Y (a m) c = true → styA (K m) (X (a m)) (X (b m)) c = true := by
      intro c hc q
      obtain ⟨e, he, w1, w2⟩ := s1 c hc q
      unfold styA
      rw [hx _ ha c hc q, Bool.true_and, anyC_iff]
      exact ⟨e, he, by rw [w2, hx _ hb e he w1]; rfl⟩
    unfold up2
    split
    · next e =>
      subst e
      exact hA c hc q
    · split
      · next e =>
        subst e
        obtain ⟨e, he, w1, w2⟩ := s2 c hc q
        unfold styB
        rw [hx _ hb c hc q, Bool.true_and, anyC_iff]
        exact ⟨e, he, by rw [w2, hA e he w1]; rfl⟩
      · exact hx i hi c hc q
theorem up2_sub {A B : Nat → Bool} {p q : Nat} (hA : ∀ c, A c = true → X p c = true) (hB : ∀ c, B c = true → X q c = true) : SubF t (up2 X p q A B) X := by
  intro i hi c hc w
  unfold up2 at w
  split at w
  · next e => rw [e]; exact hA c w
  · split at w
    · next e => rw [e]; exact hB c w
    · exact w
/-- nothing went: both stay -/
def StM (U : Nat → Bool) (a b : Nat → Nat) (K : Nat → Nat → Nat → Bool) (X : Nat → Nat → Bool) (m : Nat) : Prop := U m = true → (∀ c, c < 64 → X (a m) c = true → ∃ d, d < 64 ∧ X (b m) d = true ∧ K m c d = true) ∧ (∀ d, d < 64 → X (b m) d = true → ∃ c, c < 64 ∧ X (a m) c = true ∧ K m c d = true)
theorem sty_stM {A B : Nat → Bool} (hA : ∀ c, c < 64 → styA (K m) A B c = A c) (hB : ∀ c, c < 64 → styB (K m) A B c = B c) : (∀ c, c < 64 → A c = true → ∃ d, d < 64 ∧ B d = true ∧ K m c d = true) ∧ (∀ d, d < 64 → B d = true → ∃ c, c < 64 ∧ A c = true ∧ K m c d = true) := by
  refine ⟨fun c hc q => ?_, fun d hd q => ?_⟩
  · have h := hA c hc
    unfold styA at h
    rw [q, Bool.true_and] at h
    obtain ⟨e, he, w⟩ := anyC_iff.mp h
    simp at w
    exact ⟨e, he, w.2, w.1⟩
  · have h := hB d hd
    unfold styB at h
    rw [q, Bool.true_and] at h
    obtain ⟨e, he, w⟩ := anyC_iff.mp h
    simp at w
    exact ⟨e, he, w.2, w.1⟩
end
/-- what stays, by choice -/
noncomputable def narF (t n : Nat) (U : Nat → Bool) (a b : Nat → Nat) (K : Nat → Nat → Nat → Bool) (T : Nat → Nat → Bool) : Nat → Nat → Bool := by
  classical exact if h : ∃ X, IsNar t n U a b K T X then Classical.choose h else fun _ _ => false
theorem narF_eq {t n : Nat} {U : Nat → Bool} {a b : Nat → Nat} {K : Nat → Nat → Nat → Bool} {T X : Nat → Nat → Bool} (h : IsNar t n U a b K T X) {i c : Nat} (hi : i < t) (hc : c < 64) : narF t n U a b K T i c = X i c := by
  have hx : ∃ X, IsNar t n U a b K T X := ⟨X, h⟩
  unfold narF
  rw [dif_pos hx]
  exact (Classical.choose_spec hx).uniq h hi hc
