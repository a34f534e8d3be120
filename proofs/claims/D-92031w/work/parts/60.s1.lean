/-! soundness 1: what an abstract configuration says of the machine -/
def cvr (ad : Nat → Nat) (o : Option Nat) : Value := match o with
  | none => .null
  | some r => .ref (ad r)
def cvl (ad : Nat → Nat) : AV → Value
  | .inl x => .int x
  | .inr (.inl x) => .long x
  | .inr (.inr o) => cvr ad o
theorem cvl_i (ad : Nat → Nat) (x : Int32) : cvl ad (vi x) = .int x := rfl
theorem cvl_l (ad : Nat → Nat) (x : Int64) : cvl ad (vl x) = .long x := rfl
theorem cvl_r (ad : Nat → Nat) (o : Option Nat) : cvl ad (vr o) = cvr ad o := rfl
/-- it is a long -/
def isL : AV → Bool
  | .inr (.inl _) => true
  | _ => false
theorem cat_of (ad : Nat → Nat) (v : AV) : (cvl ad v).category = if isL v = true then 2 else 1 := by
  rcases v with x | x | o
  · rfl
  · rfl
  · cases o <;> rfl
theorem wt_of (ad : Nat → Nat) (st : List AV) : ((st.map (cvl ad)).map fun v => v.category).sum = wt st := by
  induction st with
  | nil => rfl
  | cons v st ih =>
    rw [List.map_cons, List.map_cons, List.sum_cons, ih, cat_of]
    rcases v with x | x | o
    · show 1 + wt st = wt st + 1; omega
    · show 2 + wt st = wt st + 2; omega
    · show 1 + wt st = wt st + 1; omega
/-- the locals -/
def LR (ad : Nat → Nat) (L : AL) (ls : Array Slot) : Prop := ls.size = L.length ∧ lv_wf ls ∧ ∀ (i : Nat) (v : AV), L[i]? = some (some v) → ls[i]? = some (.val (cvl ad v))
theorem LR.at {ad : Nat → Nat} {L : AL} {ls : Array Slot} (h : LR ad L ls) {k : Nat} {v : AV} (hk : ldv L k = some v) : ls[k]? = some (.val (cvl ad v)) := by
  refine h.2.2 k v ?_
  unfold ldv at hk
  cases e : L[k]? with
  | none => rw [e] at hk; cases hk
  | some q => rw [e] at hk; cases q with
    | none => cases hk
    | some w => rw [Option.join_some] at hk; cases hk; rfl
/-- the listed values of the locals -/
def prs (ad : Nat → Nat) (L : AL) : List (Nat × Value) := (List.range L.length).filterMap (fun i => (ldv L i).map (fun v => (i, cvl ad v)))
theorem mem_prs {ad : Nat → Nat} {L : AL} {q : Nat × Value} : q ∈ prs ad L ↔ ∃ v, L[q.1]? = some (some v) ∧ q.2 = cvl ad v := by
  unfold prs
  rw [List.mem_filterMap]
  constructor
  · rintro ⟨i, -, h⟩
    cases e : ldv L i with
    | none => rw [e] at h; cases h
    | some v =>
      rw [e] at h
      have h1 : (i, cvl ad v) = q := by simpa using h
      refine ⟨v, ?_, by rw [← h1]⟩
      rw [← h1]
      unfold ldv at e
      cases e2 : L[i]? with
      | none => rw [e2] at e; cases e
      | some w => rw [e2] at e; cases w with
        | none => cases e
        | some w => rw [Option.join_some] at e; cases e; rfl
  · rintro ⟨v, h1, h2⟩
    have hlt : q.1 < L.length := (List.getElem?_eq_some_iff.mp h1).1
    refine ⟨q.1, List.mem_range.mpr hlt, ?_⟩
    unfold ldv
    rw [h1, Option.join_some]
    show some (q.1, cvl ad v) = some q
    rw [← h2]
theorem LR.has {ad : Nat → Nat} {L : AL} {ls : Array Slot} (h : LR ad L ls) : lv_has ls L.length (prs ad L) := by
  refine ⟨h.1, h.2.1, fun q hq => ?_⟩
  obtain ⟨v, h1, h2⟩ := mem_prs.mp hq
  rw [h2]
  exact h.2.2 _ _ h1
theorem sto_spec : ∀ (L : AL) (k : Nat) (v : AV) (L' : AL), sto L k v = some L' → k < L.length ∧ L'.length = L.length ∧ L'[k]? = some (some v) ∧ ∀ j, j ≠ k → ∀ w, L'[j]? = some (some w) → L[j]? = some (some w) ∧ ¬ (j + 1 = k ∧ isL w = true) := by
  intro L
  induction L with
  | nil => intro k v L' h; simp [sto] at h
  | cons l L ih =>
    intro k v L' h
    match k, h with
    | 0, h =>
      simp only [sto, Option.some.injEq] at h
      subst h
      refine ⟨by simp, by simp, rfl, fun j hj w hw => ?_⟩
      match j, hj, hw with
      | j + 1, _, hw => exact ⟨hw, fun q => absurd q.1 (by omega)⟩
    | 1, h =>
      cases L with
      | nil => simp [sto] at h
      | cons l2 L =>
        simp only [sto, Option.some.injEq] at h
        subst h
        refine ⟨by simp, by simp, rfl, fun j hj w hw => ?_⟩
        match j, hj, hw with
        | 0, _, hw =>
          have hw : nl l = some w := by simpa using hw
          cases l with
          | none => cases hw
          | some u =>
            rcases u with x | x | o
            · cases hw; exact ⟨rfl, fun q => absurd q.2 (by simp [isL])⟩
            · cases hw
            · cases hw; exact ⟨rfl, fun q => absurd q.2 (by simp [isL])⟩
        | j + 2, _, hw => exact ⟨hw, fun q => absurd q.1 (by omega)⟩
    | k + 2, h =>
      simp only [sto] at h
      cases e : sto L (k + 1) v with
      | none => rw [e] at h; cases h
      | some L2 =>
        rw [e] at h
        cases h
        obtain ⟨h1, h2, h3, h4⟩ := ih _ _ _ e
        refine ⟨by simp; omega, by simp [h2], h3, fun j hj w hw => ?_⟩
        match j, hj, hw with
        | 0, _, hw => exact ⟨hw, fun q => absurd q.1 (by omega)⟩
        | j + 1, hj, hw =>
          obtain ⟨a1, a2⟩ := h4 j (by omega) w hw
          exact ⟨a1, fun q => a2 ⟨by omega, q.2⟩⟩
theorem sto2_spec : ∀ (L : AL) (k : Nat) (v : AV) (L' : AL), sto2 L k v = some L' → k + 1 < L.length ∧ L'.length = L.length ∧ L'[k]? = some (some v) ∧ ∀ j, j ≠ k → ∀ w, L'[j]? = some (some w) → L[j]? = some (some w) ∧ j ≠ k + 1 ∧ ¬ (j + 1 = k ∧ isL w = true) := by
  intro L
  induction L with
  | nil => intro k v L' h; simp [sto2] at h
  | cons l L ih =>
    intro k v L' h
    match k, h with
    | 0, h =>
      cases L with
      | nil => simp [sto2] at h
      | cons l2 L =>
        simp only [sto2, Option.some.injEq] at h
        subst h
        refine ⟨by simp, by simp, rfl, fun j hj w hw => ?_⟩
        match j, hj, hw with
        | 1, _, hw => simp at hw
        | j + 2, _, hw => exact ⟨hw, by omega, fun q => absurd q.1 (by omega)⟩
    | 1, h =>
      match L, h with
      | [], h => simp [sto2] at h
      | [_], h => simp [sto2] at h
      | l2 :: l3 :: L, h =>
        simp only [sto2, Option.some.injEq] at h
        subst h
        refine ⟨by simp, by simp, rfl, fun j hj w hw => ?_⟩
        match j, hj, hw with
        | 0, _, hw =>
          have hw : nl l = some w := by simpa using hw
          cases l with
          | none => cases hw
          | some u =>
            rcases u with x | x | o
            · cases hw; exact ⟨rfl, by omega, fun q => absurd q.2 (by simp [isL])⟩
            · cases hw
            · cases hw; exact ⟨rfl, by omega, fun q => absurd q.2 (by simp [isL])⟩
        | 2, _, hw => simp at hw
        | j + 3, _, hw => exact ⟨hw, by omega, fun q => absurd q.1 (by omega)⟩
    | k + 2, h =>
      simp only [sto2] at h
      cases e : sto2 L (k + 1) v with
      | none => rw [e] at h; cases h
      | some L2 =>
        rw [e] at h
        cases h
        obtain ⟨h1, h2, h3, h4⟩ := ih _ _ _ e
        refine ⟨by simp; omega, by simp [h2], h3, fun j hj w hw => ?_⟩
        match j, hj, hw with
        | 0, _, hw => exact ⟨hw, by omega, fun q => absurd q.1 (by omega)⟩
        | j + 1, hj, hw =>
          obtain ⟨a1, a2, a3⟩ := h4 j (by omega) w hw
          exact ⟨a1, by omega, fun q => a3 ⟨by omega, q.2⟩⟩
theorem inc_spec : ∀ (L : AL) (k : Nat) (c : Int32) (L' : AL), inc L k c = some L' → ∃ x, L[k]? = some (some (vi x)) ∧ L'.length = L.length ∧ L'[k]? = some (some (vi (x + c))) ∧ ∀ j, j ≠ k → L'[j]? = L[j]? := by
  intro L
  induction L with
  | nil => intro k c L' h; simp [inc] at h
  | cons l L ih =>
    intro k c L' h
    match k, h with
    | 0, h =>
      cases l with
      | none => simp [inc] at h
      | some u =>
        rcases u with x | x | o
        · simp only [inc, Option.some.injEq] at h
          subst h
          refine ⟨x, rfl, by simp, rfl, fun j hj => ?_⟩
          match j, hj with
          | j + 1, _ => rfl
        · simp [inc] at h
        · simp [inc] at h
    | k + 1, h =>
      simp only [inc] at h
      cases e : inc L k c with
      | none => rw [e] at h; cases h
      | some L2 =>
        rw [e] at h
        cases h
        obtain ⟨x, h1, h2, h3, h4⟩ := ih _ _ _ e
        refine ⟨x, h1, by simp [h2], h3, fun j hj => ?_⟩
        match j, hj with
        | 0, _ => rfl
        | j + 1, hj => exact h4 j (by omega)
theorem LR.of1 {ad : Nat → Nat} {L L' : AL} {ls' : Array Slot} {k : Nat} {v : AV} (hl : lv_has ls' L.length ((k, cvl ad v) :: (prs ad L).filter (fun q => !(q.1 == k) && !(q.1 + 1 == k && q.2.category == 2)))) (hs : sto L k v = some L') : LR ad L' ls' := by
  obtain ⟨h1, h2, h3, h4⟩ := sto_spec _ _ _ _ hs
  refine ⟨by rw [hl.1, h2], hl.2.1, fun i w hw => ?_⟩
  by_cases hi : i = k
  · subst hi
    rw [h3] at hw
    cases hw
    exact hl.2.2 (i, cvl ad v) List.mem_cons_self
  · obtain ⟨a1, a2⟩ := h4 i hi w hw
    refine hl.2.2 (i, cvl ad w) (List.mem_cons_of_mem _ (List.mem_filter.mpr ⟨mem_prs.mpr ⟨w, a1, rfl⟩, ?_⟩))
    rw [cat_of]
    by_cases h5 : i + 1 = k
    · have h6 : isL w = false := by
        cases e : isL w with
        | false => rfl
        | true => exact absurd ⟨h5, e⟩ a2
      simp [hi, h6]
    · simp [hi, h5]
theorem LR.of2 {ad : Nat → Nat} {L L' : AL} {ls' : Array Slot} {k : Nat} {v : AV} (hl : lv_has ls' L.length ((k, cvl ad v) :: (prs ad L).filter (fun q => !(q.1 == k) && (!(q.1 == k + 1) && !(q.1 + 1 == k && q.2.category == 2))))) (hs : sto2 L k v = some L') : LR ad L' ls' := by
  obtain ⟨h1, h2, h3, h4⟩ := sto2_spec _ _ _ _ hs
  refine ⟨by rw [hl.1, h2], hl.2.1, fun i w hw => ?_⟩
  by_cases hi : i = k
  · subst hi
    rw [h3] at hw
    cases hw
    exact hl.2.2 (i, cvl ad v) List.mem_cons_self
  · obtain ⟨a1, a3, a2⟩ := h4 i hi w hw
    refine hl.2.2 (i, cvl ad w) (List.mem_cons_of_mem _ (List.mem_filter.mpr ⟨mem_prs.mpr ⟨w, a1, rfl⟩, ?_⟩))
    rw [cat_of]
    by_cases h5 : i + 1 = k
    · have h6 : isL w = false := by
        cases e : isL w with
        | false => rfl
        | true => exact absurd ⟨h5, e⟩ a2
      simp [hi, a3, h6]
    · simp [hi, a3, h5]
