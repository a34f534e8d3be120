/-! soundness 48: the law's start, out of what the Statement gives -/
theorem obj_in : ∀ t ∈ objT, t ∈ newC := by decide
theorem exc_in : ∀ t ∈ excT, ∃ n, Cond.instantiable (cnm t) n ∈ lw_all := by
  intro t ht
  unfold excT at ht
  simp only [List.mem_cons, List.not_mem_nil, or_false] at ht
  rcases ht with rfl | rfl | rfl | rfl | rfl | rfl
  · exact ⟨_, q1278⟩
  · exact ⟨_, q580⟩
  · exact ⟨_, q549⟩
  · exact ⟨_, q661⟩
  · exact ⟨_, q1155⟩
  · exact ⟨_, q1826⟩
theorem lf_4 : Cond.exactly (.static "java/util/ArrayList" "DEFAULTCAPACITY_EMPTY_ELEMENTDATA" "[Ljava/lang/Object;") "[Ljava/lang/Object;" ∈ flatC (Cond.and given_1 narrow_1) := List.mem_of_getElem? (i := 6) (by decide +kernel)
theorem lf_5 : Cond.arrayOf (.static "java/util/ArrayList" "DEFAULTCAPACITY_EMPTY_ELEMENTDATA" "[Ljava/lang/Object;") (.object "java/lang/Object") ∈ flatC (Cond.and given_1 narrow_1) := List.mem_of_getElem? (i := 5) (by decide +kernel)
theorem lf_7 : Cond.eq (.length (.static "java/util/ArrayList" "DEFAULTCAPACITY_EMPTY_ELEMENTDATA" "[Ljava/lang/Object;")) (.int 0) ∈ flatC (Cond.and given_1 narrow_1) := List.mem_of_getElem? (i := 7) (by decide +kernel)
theorem lf_m : Cond.isRef (.mirror "[Ljava/lang/Object;") ∈ flatC (Cond.and given_1 narrow_1) := List.mem_of_getElem? (i := 574) (by decide +kernel)
section
variable {s : State} {b L : Nat} {xs : Nat → Int32}
theorem arr_of (hts : ∀ w ∈ lw_tbl, w.before #[Value.ref b] s = true) : ∀ t ∈ arrTg, ∃ cA : ClassId, ArrOfT s cA (aty t) ∧ va_RA s cA (aty t) := by
  have hp : ∀ ty : FieldType, (∀ C, ty ≠ .object C) → Cond.arrayClass ty ∈ lw_all → ∃ cA : ClassId, ArrOfT s cA ty ∧ va_RA s cA ty := by
    intro ty hno hw
    obtain ⟨c, k, comp, h1, h2, h3⟩ := Cond.arrayClass_spec (hts _ (lw_all_tbl hw))
    refine ⟨c, fun n z => ⟨fun q h => (by cases h), k, h2, comp, h3⟩, ?_⟩
    cases ty <;> first | exact h1 | exact absurd rfl (hno _)
  have ho : ∀ C : String, Cond.arrayOver (.object C) ∈ lw_tbl → ∃ cA : ClassId, ArrOfT s cA (.object C) ∧ va_RA s cA (.object C) := by
    intro C hw
    obtain ⟨comp, c, k, h1, -, h3, h4, h5⟩ := Cond.arrayOver_spec (hts _ hw)
    exact ⟨c, fun n z => ⟨fun q h => (by cases h), k, h3, comp, h4⟩, k, comp, h3, h4, h1, h5⟩
  have ha : ∀ ty : FieldType, Cond.arrayOver (.array ty) ∈ lw_tbl → ∃ cA : ClassId, ArrOfT s cA (.array ty) ∧ va_RA s cA (.array ty) := by
    intro ty hw
    obtain ⟨comp, c, k, h1, -, h3, h4, h5⟩ := arrayOverA_spec (hts _ hw)
    exact ⟨c, fun n z => ⟨fun q h => (by cases h), k, h3, comp, h4⟩, h5⟩
  intro t ht
  unfold arrTg at ht
  simp only [List.mem_cons, List.not_mem_nil, or_false] at ht
  rcases ht with rfl | rfl | rfl | rfl | rfl | rfl | rfl | rfl | rfl | rfl
  · exact hp .int (fun C h => by cases h) (arrW 40 (by decide))
  · exact hp .long (fun C h => by cases h) (arrW 41 (by decide))
  · exact hp .byte (fun C h => by cases h) (arrW 42 (by decide))
  · exact hp .short (fun C h => by cases h) (arrW 43 (by decide))
  · exact hp .boolean (fun C h => by cases h) (arrW 44 (by decide))
  · exact ho "java/lang/Object" q857
  · exact ha .int q199
  · exact ha .long q204
  · exact ho "HeardPlaces$Image" q206
  · exact ho "HeardPlaces$Place" q211
theorem base_of (hts : ∀ w ∈ lw_tbl, w.before #[Value.ref b] s = true) (hX : va_X b L xs s s.heap) (hbl : b < s.heap.size) (hL : L ≤ 384) (hgv : (Jvm.Cond.and given_1 narrow_1).before #[Value.ref b] s = true) :
    ∃ (e0 m0 : Nat) (D : DD), Base (s, b, e0, m0, L, xs) D ∧ b ≠ e0 := by
  have hta : ∀ w ∈ lw_all, w.before #[Value.ref b] s = true := fun w hw => hts w (lw_all_tbl hw)
  -- the classes
  have h1 : ∀ t : Nat, ∃ q : ClassId × (Nat → Nat), (t ∈ objT → u_Kn s (cnm t) (cTT t) (nf t) q.1 q.2) ∧ (t ∈ excT → ClassAt s (cnm t) q.1 ∧ SlotIs s "java/lang/Throwable" "backtrace" "Ljava/lang/Object;" (q.2 0)) := by
    intro t
    by_cases ho : t ∈ objT
    · obtain ⟨cC, iS, hu⟩ := u_known hta (lays_all t ho) (hta _ (in_tab t (obj_in t ho)).1)
      exact ⟨(cC, iS), fun _ => hu, fun he => absurd ho ((show ∀ t ∈ excT, ¬ t ∈ objT by decide) t he)⟩
    · by_cases he : t ∈ excT
      · obtain ⟨n, hw⟩ := exc_in t he
        obtain ⟨c1, k1, hc1, hk1, hord, -⟩ := Cond.instantiable_spec (hta _ hw)
        obtain ⟨c2, k2, cf, kf, fi, fd, -, -, hi, -⟩ := Cond.lays_spec (hta _ q1285)
        exact ⟨(c1, fun _ => fd.slot), fun h => absurd h ho, fun _ => ⟨⟨hc1, k1, hk1, hord⟩, cf, kf, fi, fd, hi, rfl⟩⟩
      · exact ⟨(0, fun _ => 0), fun h => absurd h ho, fun h => absurd h he⟩
  have h2 : ∀ t : Nat, ∃ cA : ClassId, t ∈ arrTg → ArrOfT s cA (aty t) ∧ va_RA s cA (aty t) := by
    intro t
    by_cases ht : t ∈ arrTg
    · obtain ⟨cA, h⟩ := arr_of hts t ht
      exact ⟨cA, fun _ => h⟩
    · exact ⟨0, fun h => absurd h ht⟩
  obtain ⟨F, hF⟩ := Classical.axiomOfChoice h1
  obtain ⟨A, hA⟩ := Classical.axiomOfChoice h2
  -- the empty array
  obtain ⟨e0, cE, cellE, kE, v1, v2, v3, v4, v5, v6, -⟩ := Cond.exactly_spec (flat_of_before _ hgv _ lf_4)
  obtain ⟨w1, w2⟩ := Cond.arrayOf_spec (flat_of_before _ hgv _ lf_5) v1 v3
  obtain ⟨m0, hm0⟩ := va_Mi.of (flat_of_before _ hgv _ lf_m)
  have hz := va_Zref (A := fun q => s.heap.size ≤ q) (hts _ q184) (hta _ q131) v1 (fun a h h2 => by omega)
  have hsz : cellE.slots.size.toInt32 = 0 := by
    have h9 := flat_of_before _ hgv _ lf_7
    cases hl : (Term.length (.static "java/util/ArrayList" "DEFAULTCAPACITY_EMPTY_ELEMENTDATA" "[Ljava/lang/Object;")).eval #[Value.ref b] s none [] s with
    | none => simp [Cond.before, Cond.holds, Cond.value, hl] at h9
    | some v =>
      obtain ⟨a2, cell2, l1, l2, l3⟩ := Term.length_spec hl
      cases v1.symm.trans l1
      obtain ⟨l4, l5, l6⟩ := State.arrayAt?_spec l2
      cases v3.symm.trans l4
      subst l3
      have hv := Cond.eq_ints hl (show (Term.int 0).eval #[Value.ref b] s none [] s = some (.int 0) from rfl)
      simpa [Cond.before, Cond.holds, hv] using h9
  have hcls : cellE.cls = A 50 := by
    have h9 := (hA 50 (by decide)).2
    obtain ⟨kA, comp, -, -, -, h4⟩ := h9
    rw [v6]
    exact Option.some.inj (v2.symm.trans h4)
  have hDc : va_Dc s := va_Dc.of (hts _ q2692)
  refine ⟨e0, m0, (fun t => (F t).1, fun t => (F t).2, A), ⟨hts, hgv, fun t ht => (hF t).1 ht, fun t ht => hA t ht, fun t ht => ⟨((hF t).2 ht).1, ((hF 12).2 (by decide)).2⟩, ⟨hX, by show L < _; omega⟩, hbl, (Array.getElem?_eq_some_iff.mp v3).1, trivial, ⟨cellE, v3, hcls, v5, w2, hsz, w1⟩, hm0, hz, hDc⟩, ?_⟩
  intro e
  subst e
  obtain ⟨scr, x1, x2, -⟩ := hX
  cases x1.symm.trans v3
  obtain ⟨-, k1, a1, c1, a2⟩ := x2
  obtain ⟨-, k2, a3, c2, a4⟩ := w1
  cases a1.symm.trans a3
  rw [a2] at a4
  cases a4
end
