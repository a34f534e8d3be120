/-! contracts of the reference: hops -/
theorem ct_ins {p : Nat → Bool} {k : Nat} : ∀ {N : Nat}, k < N → p k = false → ct (fun x => p x || x == k) N = ct p N + 1
  | 0, h, _ => absurd h (by omega)
  | N + 1, h, hp => by
    unfold ct
    by_cases e : k = N
    · subst e
      rw [ct_congr (q := p) (fun c hc => by have : (c == k) = false := by simpa using (by omega : ¬ c = k)
                                            rw [this, Bool.or_false])]
      simp [hp]
    · rw [ct_ins (N := N) (by omega) hp]
      have : (N == k) = false := by simpa using (fun q => e q.symm)
      rw [this, Bool.or_false]
      omega
theorem pigeon {R : Nat → Nat} {m : Nat} : ∀ n, (∀ j, j < n → R j < m) → (∀ i j, i < n → j < n → R i = R j → i = j) → n = ct (fun x => (List.range n).any (fun j => x == R j)) m
  | 0, _, _ => by rw [eq_comm, ct_0]; intro c _; rfl
  | n + 1, h1, h2 => by
    have ih := pigeon n (fun j hj => h1 j (by omega)) (fun i j hi hj => h2 i j (by omega) (by omega))
    have hn : (List.range n).any (fun j => R n == R j) = false := by
      rw [List.any_eq_false]
      intro j hj q
      have hj := List.mem_range.mp hj
      have := h2 n j (by omega) (by omega) (by simpa using q)
      omega
    have e : ct (fun x => (List.range (n + 1)).any (fun j => x == R j)) m = ct (fun x => (List.range n).any (fun j => x == R j) || x == R n) m := ct_congr fun c _ => by
      rw [List.range_succ, List.any_append]
      simp
    rw [e, ct_ins (h1 n (by omega)) hn, ← ih]
theorem pigeon_lt {R : Nat → Nat} {n m x : Nat} (h1 : ∀ j, j < n → R j < m) (h2 : ∀ i j, i < n → j < n → R i = R j → i = j) (hx : x < m) (h3 : ∀ j, j < n → R j ≠ x) : n < m := by
  rw [pigeon n h1 h2]
  have hall : ct (fun _ => true) m = m := by
    clear h1 h2 hx h3
    induction m with
    | zero => rfl
    | succ m ih => unfold ct; rw [ih]; rfl
  have := ct_lt (p := fun x => (List.range n).any (fun j => x == R j)) (q := fun _ => true) (n := m) (fun _ _ _ => rfl) ⟨x, hx, by
    rw [List.any_eq_false]
    intro j hj q
    exact h3 j (List.mem_range.mp hj) (by simpa using (by simpa using q : x = R j).symm), rfl⟩
  rw [hall] at this
  exact this
/-- what a row of hops says of a cell -/
def HopIs (F : Nat → Bool) (r c x : Nat) (v : Int32) : Prop := (∃ n, n < 64 ∧ v = nI n ∧ lev F r c n x = true) ∨ (v = -1 ∧ ∀ n, bal F r c n x = false)
/-- the queue: come cells R, of k all hops are gone; of the next one those below z -/
def BQ (F : Nat → Bool) (r c k z come : Nat) (R lv : Nat → Nat) : Prop :=
  (1 ≤ come ∧ come ≤ 64 ∧ k ≤ come) ∧ (∀ j, j < come → R j < 64 ∧ lv (R j) ≤ j ∧ lev F r c (lv (R j)) (R j) = true) ∧
  (∀ i j, i < come → j < come → R i = R j → i = j) ∧ (∀ i j, i ≤ j → j < come → lv (R i) ≤ lv (R j)) ∧
  (∀ j, j < k → ∀ x, x < 64 → F x = true → fr (R j) x ≤ r → ∃ i, i < come ∧ R i = x) ∧
  (k < come → (∀ j, j < come → lv (R j) ≤ lv (R k) + 1) ∧ ∀ x, x < z → x < 64 → F x = true → fr (R k) x ≤ r → ∃ i, i < come ∧ R i = x) ∧ R 0 = c ∧ lv c = 0
theorem BQ.full {F : Nat → Bool} {r c k z come : Nat} {R lv : Nat → Nat} (h : BQ F r c k z come R lv) {N : Nat} (hN : ∀ i, i < come → lv (R i) < N → i < k) : ∀ n, n ≤ N → ∀ y, y < 64 → bal F r c n y = true → ∃ i, i < come ∧ R i = y := by
  obtain ⟨⟨h1, h2, h3⟩, h4, h5, h6, h7, h8, h9, h10⟩ := h
  intro n
  induction n with
  | zero =>
    intro _ y hy hb
    have : y = c := by simpa [bal] using hb
    exact ⟨0, h1, h9.trans this.symm⟩
  | succ n ih =>
    intro hn y hy hb
    rcases bal_edge.mp hb with q | ⟨e, he, q1, q2, q3⟩
    · exact ih (by omega) y hy q
    · obtain ⟨i, hi, rfl⟩ := ih (by omega) e he (lev_bal q1)
      have hl := lev_uniq (h4 i hi).2.2 q1
      exact h7 i (hN i hi (by omega)) y hy q2 q3
theorem BQ.add {F : Nat → Bool} {r c k z come : Nat} {R lv : Nat → Nat} (h : BQ F r c k z come R lv) (hk : k < come) (hz : z < 64) (hF : F z = true) (hr : fr (R k) z ≤ r) (hnew : ∀ i, i < come → R i ≠ z) :
    BQ F r c k (z + 1) (come + 1) (fun j => if j = come then z else R j) (fun x => if x = z then lv (R k) + 1 else lv x) ∧ come < 64 := by
  have hfull := h.full (N := lv (R k)) (fun i hi hlt => by
    obtain ⟨-, -, -, h6, -⟩ := h
    rcases Nat.lt_or_ge i k with q | q
    · exact q
    · have := h6 k i q hi
      omega)
  obtain ⟨⟨h1, h2, h3⟩, h4, h5, h6, h7, h8, h9, h10⟩ := h
  obtain ⟨h8a, h8b⟩ := h8 hk
  have hlt : come < 64 := pigeon_lt (fun j hj => (h4 j hj).1) h5 hz hnew
  have hold : ∀ j, j < come → (if j = come then z else R j) = R j := fun j hj => if_neg (by omega)
  have hnz : ∀ j, j < come → (if R j = z then lv (R k) + 1 else lv (R j)) = lv (R j) := fun j hj => if_neg (hnew j hj)
  have hlev : lev F r c (lv (R k) + 1) z = true := lev_mk (bal_succ.mpr (Or.inr ⟨R k, (h4 k hk).1, lev_bal (h4 k hk).2.2, hF, hr⟩)) (fun n hn => by
    cases hb : bal F r c n z with
    | false => rfl
    | true =>
      obtain ⟨i, hi, q⟩ := hfull n (by omega) z hz hb
      exact absurd q (hnew i hi))
  refine ⟨⟨⟨by omega, by omega, by omega⟩, ?_, ?_, ?_, ?_, ?_, ?_, ?_⟩, hlt⟩
  · intro j hj
    by_cases e : j = come
    · subst e
      dsimp only
      rw [if_pos rfl, if_pos rfl]
      have := (h4 k hk).2.1
      exact ⟨hz, by omega, hlev⟩
    · have hj' : j < come := by omega
      dsimp only
      rw [hold j hj', hnz j hj']
      exact h4 j hj'
  · intro i j hi hj q
    dsimp only at q
    by_cases e : i = come <;> by_cases e2 : j = come
    · omega
    · rw [if_pos e, hold j (by omega)] at q
      exact absurd q.symm (hnew j (by omega))
    · rw [if_pos e2, hold i (by omega)] at q
      exact absurd q (hnew i (by omega))
    · rw [hold i (by omega), hold j (by omega)] at q
      exact h5 i j (by omega) (by omega) q
  · intro i j hij hj
    dsimp only
    by_cases e2 : j = come
    · rw [if_pos e2, if_pos rfl]
      by_cases e : i = come
      · rw [if_pos e, if_pos rfl]; exact Nat.le_refl _
      · rw [hold i (by omega), hnz i (by omega)]
        exact h8a i (by omega)
    · rw [hold j (by omega), hnz j (by omega), hold i (by omega), hnz i (by omega)]
      exact h6 i j hij (by omega)
  · intro j hj x hx hFx hfr
    dsimp only at hfr
    rw [hold j (by omega)] at hfr
    obtain ⟨i, hi, q⟩ := h7 j hj x hx hFx hfr
    exact ⟨i, by omega, by dsimp only; rw [hold i hi]; exact q⟩
  · intro _
    dsimp only
    rw [hold k hk, hnz k hk]
    refine ⟨fun j hj => ?_, fun x hx hx2 hFx hfr => ?_⟩
    · by_cases e : j = come
      · rw [if_pos e, if_pos rfl]; exact Nat.le_refl _
      · rw [hold j (by omega), hnz j (by omega)]
        exact h8a j (by omega)
    · by_cases e : x = z
      · exact ⟨come, by omega, by rw [if_pos rfl]; exact e.symm⟩
      · obtain ⟨i, hi, q⟩ := h8b x (by omega) hx2 hFx hfr
        exact ⟨i, by omega, by rw [hold i hi]; exact q⟩
  · dsimp only
    rw [hold 0 h1]
    exact h9
  · dsimp only
    have : ¬ c = z := fun q => hnew 0 h1 (h9.trans q)
    rw [if_neg this]
    exact h10
theorem BQ.skip {F : Nat → Bool} {r c k z come : Nat} {R lv : Nat → Nat} (h : BQ F r c k z come R lv) (hz : F z = true → fr (R k) z ≤ r → ∃ i, i < come ∧ R i = z) : BQ F r c k (z + 1) come R lv := by
  obtain ⟨h1, h4, h5, h6, h7, h8, h9, h10⟩ := h
  refine ⟨h1, h4, h5, h6, h7, fun hk => ⟨(h8 hk).1, fun x hx hx2 hF hfr => ?_⟩, h9, h10⟩
  by_cases e : x = z
  · subst e
    exact hz hF hfr
  · exact (h8 hk).2 x (by omega) hx2 hF hfr
theorem BQ.next {F : Nat → Bool} {r c k come : Nat} {R lv : Nat → Nat} (h : BQ F r c k 64 come R lv) (hk : k < come) : BQ F r c (k + 1) 0 come R lv := by
  obtain ⟨⟨a1, a2, a3⟩, h4, h5, h6, h7, h8, h9, h10⟩ := h
  refine ⟨⟨a1, a2, by omega⟩, h4, h5, h6, fun j hj x hx hF hfr => ?_, fun hk2 => ⟨fun j hj => ?_, fun x hx => absurd hx (by omega)⟩, h9, h10⟩
  · by_cases e : j = k
    · subst e
      exact (h8 hk).2 x hx hx hF hfr
    · exact h7 j (by omega) x hx hF hfr
  · have h1 := (h8 hk).1 j hj
    have h2 := h6 k (k + 1) (by omega) hk2
    omega
theorem BQ.init {F : Nat → Bool} {r c : Nat} (hc : c < 64) : BQ F r c 0 0 1 (fun _ => c) (fun _ => 0) := ⟨⟨by decide, by decide, by decide⟩, fun j hj => ⟨hc, Nat.zero_le _, by simp [lev, bal]⟩, fun i j hi hj _ => by omega, fun i j hi hj => Nat.le_refl _, fun j hj => absurd hj (by omega), fun _ => ⟨fun j hj => Nat.zero_le _, fun x hx => absurd hx (by omega)⟩, rfl, rfl⟩
/-- the queue in the heap -/
def BH (come : Nat) (R lv : Nat → Nat) (G : AH) : Prop := (∀ j, j < come → hI G 156 j = nI (R j) ∧ hI G 155 (R j) = nI (lv (R j))) ∧ ∀ x, x < 64 → (∀ j, j < come → R j ≠ x) → hI G 155 x = -1
theorem BH.add {F : Nat → Bool} {r c k z come : Nat} {R lv : Nat → Nat} {G : AH} {v : Int32} (hB : BQ F r c k z come R lv) (h : BH come R lv G) (hz : z < 64) (hnew : ∀ i, i < come → R i ≠ z) (hv : v = nI (lv (R k) + 1)) :
    BH (come + 1) (fun j => if j = come then z else R j) (fun x => if x = z then lv (R k) + 1 else lv x) (sI (sI G 155 z v) 156 come (nI z)) := by
  obtain ⟨h1, h2⟩ := h
  refine ⟨fun j hj => ?_, fun x hx hn => ?_⟩
  · by_cases e : j = come
    · subst e
      dsimp only
      rw [if_pos rfl, if_pos rfl]
      constructor
      · rw [hI_sI, if_pos ⟨rfl, rfl⟩]
      · rw [hI_sI, if_neg (by omega), hI_sI, if_pos ⟨rfl, rfl⟩, hv]
    · have hj' : j < come := by omega
      dsimp only
      rw [if_neg e, if_neg (hnew j hj')]
      constructor
      · rw [hI_sI, if_neg (fun q => e q.2), hI_sI, if_neg (by omega)]
        exact (h1 j hj').1
      · rw [hI_sI, if_neg (by omega), hI_sI, if_neg (fun q => hnew j hj' q.2)]
        exact (h1 j hj').2
  · have hxz : ¬ x = z := fun q => hn come (by omega) (by dsimp only; rw [if_pos rfl]; exact q.symm)
    rw [hI_sI, if_neg (by omega), hI_sI, if_neg (fun q => hxz q.2)]
    refine h2 x hx fun j hj q => hn j (by omega) ?_
    dsimp only
    rw [if_neg (by omega)]
    exact q
section
variable {d : Nat} {G : AH} {s : SGT}
def dI (c e : Int32) : Int32 := (irm c (nI 8) - irm e (nI 8)) * (irm c (nI 8) - irm e (nI 8)) + (c / nI 8 - e / nI 8) * (c / nI 8 - e / nI 8)
theorem dI_eq {c e : Nat} (hc : c < 64) (he : e < 64) : dI (nI c) (nI e) = nI (fr c e) := by
  have : ∀ c e : Fin 64, dI (nI c.val) (nI e.val) = nI (fr c.val e.val) := by decide +kernel
  exact this ⟨c, hc⟩ ⟨e, he⟩
theorem m_distance {c e : Nat} (hc : c < 64) (he : e < 64) : cl d 173 [vi (nI c), vi (nI e)] G = some (.inl (some (vi (nI (fr c e)))), G) := by
  rw [← dI_eq hc he, en173]
  simp only [rX2_distance_0, rX2_distance_1, rX2_distance_3, rX2_distance_4, rX2_distance_5, rX2_distance_7, rX2_distance_8, rX2_distance_9, rX2_distance_10, rX2_distance_11, rX2_distance_13, rX2_distance_14, rX2_distance_15, rX2_distance_17, rX2_distance_18, rX2_distance_19, rX2_distance_20, rX2_distance_21, rX2_distance_22, rX2_distance_23, rX2_distance_24, rX2_distance_25, rX2_distance_26, rX2_distance_27, psh_some, psh_none, bnd_r1, bnd_r0, b01_0, b01_1, lg_lt, lg_eq, lg_gt, lg_ge, lg_le, reduceIte, Bool.false_eq_true, and_true, true_and, and_false, false_and, not_true_eq_false, not_false_eq_true, eq_self, nl_i, nl_n, show ¬ nI 8 = 0 by decide]
  rfl
theorem m_hopFrom {c r : Nat} (hc : c < 64) (hr : r ≤ 98) (hM : MS G) (hT : TR s G) (hd : 3 ≤ d) (hS : SB s) : ∃ G', cl d 172 [vr (some 136), vi (nI c), vi (nI r)] G = some (.inl none, G') ∧ Sm [155, 156] [] G G' ∧ ∀ x, x < 64 → HopIs (fre s) r c x (hI G' 155 x) := by
  rw [en172]
  simp only [rX2_hopFrom_0, rX2_hopFrom_1, psh_some, psh_none, bnd_r1, bnd_r0, b01_0, b01_1, lg_lt, lg_eq, lg_gt, lg_ge, lg_le, reduceIte, Bool.false_eq_true, and_true, true_and, and_false, false_and, not_true_eq_false, not_false_eq_true, eq_self, nl_l, nl_n, nl_i]
  refine lpQ (P := fun i H => At d 172 2 [some (vr (some 136)), some (vi (nI c)), some (vi (nI r)), some (vi (nI i)), none, none] [] H) (Q := fun q => ∃ G', q = some (.inl none, G') ∧ Sm [155, 156] [] G G' ∧ ∀ x, x < 64 → HopIs (fre s) r c x (hI G' 155 x)) (fun i H => Sm [155, 156] [] G H ∧ ∀ x, x < i → hI H 155 x = -1) 64 ?_ ?_ (Nat.zero_le _) ⟨Sm.refl G, fun x hx => absurd hx (by omega)⟩
  · intro i H hi hI ih
    obtain ⟨h1, h2⟩ := hI
    have hM' := h1.ms hM
    have hT' := h1.tr (by decide) hT
    have h3 := ih (sI H 155 i (-1)) ⟨h1.trans (Sm.sI (Or.inl (by decide))), fun x hx => by
      rw [hI_sI]
      split
      · rfl
      · exact h2 x (by omega)⟩
    rw [rX2_hopFrom_2]
    simp (disch := omega) only [rX2_hopFrom_0, rX2_hopFrom_1, rX2_hopFrom_3, rX2_hopFrom_5, rX2_hopFrom_8, rX2_hopFrom_9, rX2_hopFrom_12, rX2_hopFrom_13, rX2_hopFrom_14, rX2_hopFrom_15, rX2_hopFrom_18, rX2_hopFrom_21, rX2_hopFrom_22, rX2_hopFrom_25, rX2_hopFrom_26, rX2_hopFrom_27, rX2_hopFrom_28, rX2_hopFrom_29, rX2_hopFrom_32, rX2_hopFrom_33, rX2_hopFrom_34, rX2_hopFrom_35, rX2_hopFrom_36, rX2_hopFrom_37, rX2_hopFrom_38, rX2_hopFrom_42, rX2_hopFrom_43, rX2_hopFrom_46, rX2_hopFrom_47, rX2_hopFrom_51, rX2_hopFrom_53, rX2_hopFrom_56, rX2_hopFrom_57, rX2_hopFrom_59, rX2_hopFrom_62, rX2_hopFrom_65, rX2_hopFrom_66, rX2_hopFrom_69, rX2_hopFrom_71, rX2_hopFrom_72, rX2_hopFrom_75, rX2_hopFrom_76, rX2_hopFrom_79, rX2_hopFrom_81, rX2_hopFrom_82, rX2_hopFrom_84, rX2_hopFrom_87, rX2_hopFrom_88, rX2_hopFrom_91, rX2_hopFrom_92, rX2_hopFrom_95, rX2_hopFrom_97, rX2_hopFrom_98, rX2_hopFrom_101, rX2_hopFrom_102, rX2_hopFrom_105, rX2_hopFrom_107, rX2_hopFrom_108, rX2_hopFrom_109, rX2_hopFrom_110, rX2_hopFrom_111, rX2_hopFrom_112, rX2_hopFrom_113, rX2_hopFrom_116, rX2_hopFrom_117, rX2_hopFrom_119, rX2_hopFrom_120, rX2_hopFrom_123, rX2_hopFrom_126, rX2_hopFrom_129, rX2_hopFrom_132, rX2_hopFrom_135, psh_some, psh_none, bnd_r1, bnd_r0, b01_0, b01_1, lg_lt, lg_eq, lg_gt, lg_ge, lg_le, reduceIte, Bool.false_eq_true, and_true, true_and, and_false, false_and, not_true_eq_false, not_false_eq_true, eq_self, nI_add, nI_mul, nI_div, nI_irm, nI_subk, inb_ok, ix_ok, nI_lt_t, nI_lt_f, nI_le_t, nI_le_f, nI_eq_t, nI_eq_f, nI_z, ifb, ifbn, b01_bI, b01_n, Nat.reduceEqDiff, nl_l, nl_n, nl_i, nl_r, Bool.true_eq_false, reduceIte, if_true, if_false, ok0_0, ok0_1, ok0_2, ok0_3, ok0_4, ok0_5, ok0_6, ok0_7, ok0_8, ok0_9, ok0_10, ok0_11, ok0_12, ok0_13, ok0_14, ok0_15, ok0_16, ok0_17, ok0_18, ok0_19, ok0_20, ok0_21, ok0_22, ok0_23, ok0_24, ok0_25, ok0_26, ok0_27, ok0_28, ok0_29, ok0_30, ok0_31, ok0_32, ok0_33, ok0_34, ok0_35, ok0_36, ok0_37, ok0_38, ok0_39, ok0_40, ok0_41, ok0_42, ok0_43, ok0_44, ok0_45, ok0_46, ok0_47, ok0_48, ok0_49, ok0_50, ok0_51, ok0_52, ok0_53, ok0_54, ok1_141, ok2_55, ok2_56, ok2_57, ok2_58, ok2_59, ok2_60, ok2_61, ok2_62, ok2_63, ok2_64, ok2_65, ok2_66, ok2_67, ok2_68, ok2_69, ok2_70, ok2_71, ok2_72, ok2_73, ok2_74, ok2_75, ok2_76, ok2_77, ok2_78, ok2_79, ok2_80, ok2_81, ok2_82, ok2_83, ok2_84, ok2_85, ok2_86, ok2_87, ok2_88, ok2_89, ok2_90, ok2_91, ok2_92, ok2_93, ok2_94, ok2_95, ok2_96, ok2_97, ok2_98, ok2_99, ok2_100, ok2_101, ok2_102, ok2_103, ok2_104, ok2_105, ok2_106, ok2_107, ok2_108, ok2_109, ok2_110, ok2_111, ok2_112, ok2_113, ok2_114, ok2_115, ok2_116, ok2_117, ok2_118, ok2_119, ok2_120, ok2_121, ok2_122, ok2_123, ok2_124, ok2_125, ok2_126, ok2_127, ok2_128, ok2_129, ok2_130, ok2_131, ok2_132, ok2_133, ok2_134, ok2_135, ok2_136, ok2_137, ok3_171, ok3_172, ok3_173, ok3_174, ok3_175, ok3_176, ok4_171, ok4_172, ok4_173, ok4_174, ok4_175, ok4_176, ok4_177, ok4_178, ok5_171, ok5_172, ok5_173, ok5_174, ok5_175, ok5_176, ok5_177, ok5_178, ok5_179, ok7_142, ok7_143, ok7_144, ok7_145, ok7_146, ok7_147, ok7_148, ok7_149, ok7_152, ok7_153, ok7_154, ok8_142, ok8_143, ok8_144, ok8_145, ok8_146, ok8_147, ok8_148, ok8_149, ok8_152, ok8_153, ok8_154, ok8_155, ok9_142, ok9_143, ok9_144, ok9_145, ok9_146, ok9_147, ok9_148, ok9_149, ok9_152, ok9_153, ok9_154, ok9_155, ok9_180, ok10_142, ok10_143, ok10_144, ok10_145, ok10_146, ok10_147, ok10_148, ok10_149, ok10_150, ok10_151, ok11_142, ok11_143, ok11_144, ok11_145, ok11_146, ok11_147, ok11_148, ok11_149, ok11_152, ok11_153, ok11_154, ok11_155, ok11_156, ok11_157, ok13_158, ok13_159, ok13_160, ok13_161, ok13_162, ok13_163, ok13_164, ok13_165, ok13_166, ok13_167, ok13_168, ok13_169, ok13_170, ok16_138, ok16_139, ok16_140, ct_a, ct_a5, ct_b, ct_c, ct_d, ct_r50, ct_r51, ct_r52, ct_r53, ct_r54, ms_T, msR_58, msT_137, msL_137, msR_60, msT_138, msL_138, msR_61, msT_139, msL_139, msR_62, msT_140, msL_140, msR_63, msT_141, msL_141, msR_64, msT_142, msL_142, msR_65, msT_143, msL_143, msR_66, msT_144, msL_144, msR_68, msT_145, msL_145, msR_69, msT_146, msL_146, msR_70, msT_147, msL_147, msR_71, msT_148, msL_148, msR_72, msT_149, msL_149, msR_73, msT_150, msL_150, msR_75, msT_151, msL_151, msR_76, msT_152, msL_152, msR_77, msT_153, msL_153, msR_79, msT_154, msL_154, msR_83, msT_155, msL_155, msR_84, msT_156, msL_156, msR_85, msT_157, msL_157, msR_86, msT_158, msL_158, msR_87, msT_159, msL_159, msR_88, msT_160, msL_160, msR_89, msT_161, msL_161, msR_91, msT_162, msL_162, msR_93, msT_163, msL_163, msR_94, msT_164, msL_164, msR_95, msT_165, msL_165, msR_99, msT_166, msL_166, msR_100, msT_167, msL_167, msR_102, msT_168, msL_168, msR_120, msT_169, msL_169, msR_121, msT_170, msL_170, msR_122, msT_171, msL_171, msR_125, msT_172, msL_172, msR_126, msT_173, msL_173, msR_127, msT_174, msL_174, msR_128, msT_175, msL_175, msR_129, msT_176, msL_176, msR_130, msT_177, msL_177, msR_131, msT_178, msL_178, msR_132, msT_179, msL_179, msR_134, msT_180, msL_180, msR_135, msT_181, msL_181, msR_136, msT_182, msL_182, msR_137, msT_183, msL_183, hM', nl_l, nl_n, nl_i]
    exact h3
  · intro H hI
    obtain ⟨h1, h2⟩ := hI
    have hM' := h1.ms hM
    rw [rX2_hopFrom_2]
    simp (disch := omega) only [rX2_hopFrom_0, rX2_hopFrom_1, rX2_hopFrom_3, rX2_hopFrom_5, rX2_hopFrom_8, rX2_hopFrom_9, rX2_hopFrom_12, rX2_hopFrom_13, rX2_hopFrom_14, rX2_hopFrom_15, rX2_hopFrom_18, rX2_hopFrom_21, rX2_hopFrom_22, rX2_hopFrom_25, rX2_hopFrom_26, rX2_hopFrom_27, rX2_hopFrom_28, rX2_hopFrom_29, rX2_hopFrom_32, rX2_hopFrom_33, rX2_hopFrom_34, rX2_hopFrom_35, rX2_hopFrom_36, rX2_hopFrom_37, rX2_hopFrom_38, rX2_hopFrom_42, rX2_hopFrom_43, rX2_hopFrom_46, rX2_hopFrom_47, rX2_hopFrom_51, rX2_hopFrom_53, rX2_hopFrom_56, rX2_hopFrom_57, rX2_hopFrom_59, rX2_hopFrom_62, rX2_hopFrom_65, rX2_hopFrom_66, rX2_hopFrom_69, rX2_hopFrom_71, rX2_hopFrom_72, rX2_hopFrom_75, rX2_hopFrom_76, rX2_hopFrom_79, rX2_hopFrom_81, rX2_hopFrom_82, rX2_hopFrom_84, rX2_hopFrom_87, rX2_hopFrom_88, rX2_hopFrom_91, rX2_hopFrom_92, rX2_hopFrom_95, rX2_hopFrom_97, rX2_hopFrom_98, rX2_hopFrom_101, rX2_hopFrom_102, rX2_hopFrom_105, rX2_hopFrom_107, rX2_hopFrom_108, rX2_hopFrom_109, rX2_hopFrom_110, rX2_hopFrom_111, rX2_hopFrom_112, rX2_hopFrom_113, rX2_hopFrom_116, rX2_hopFrom_117, rX2_hopFrom_119, rX2_hopFrom_120, rX2_hopFrom_123, rX2_hopFrom_126, rX2_hopFrom_129, rX2_hopFrom_132, rX2_hopFrom_135, psh_some, psh_none, bnd_r1, bnd_r0, b01_0, b01_1, lg_lt, lg_eq, lg_gt, lg_ge, lg_le, reduceIte, Bool.false_eq_true, and_true, true_and, and_false, false_and, not_true_eq_false, not_false_eq_true, eq_self, nI_add, nI_mul, nI_div, nI_irm, nI_subk, inb_ok, ix_ok, nI_lt_t, nI_lt_f, nI_le_t, nI_le_f, nI_eq_t, nI_eq_f, nI_z, ifb, ifbn, b01_bI, b01_n, Nat.reduceEqDiff, nl_l, nl_n, nl_i, nl_r, Bool.true_eq_false, reduceIte, if_true, if_false, ok0_0, ok0_1, ok0_2, ok0_3, ok0_4, ok0_5, ok0_6, ok0_7, ok0_8, ok0_9, ok0_10, ok0_11, ok0_12, ok0_13, ok0_14, ok0_15, ok0_16, ok0_17, ok0_18, ok0_19, ok0_20, ok0_21, ok0_22, ok0_23, ok0_24, ok0_25, ok0_26, ok0_27, ok0_28, ok0_29, ok0_30, ok0_31, ok0_32, ok0_33, ok0_34, ok0_35, ok0_36, ok0_37, ok0_38, ok0_39, ok0_40, ok0_41, ok0_42, ok0_43, ok0_44, ok0_45, ok0_46, ok0_47, ok0_48, ok0_49, ok0_50, ok0_51, ok0_52, ok0_53, ok0_54, ok1_141, ok2_55, ok2_56, ok2_57, ok2_58, ok2_59, ok2_60, ok2_61, ok2_62, ok2_63, ok2_64, ok2_65, ok2_66, ok2_67, ok2_68, ok2_69, ok2_70, ok2_71, ok2_72, ok2_73, ok2_74, ok2_75, ok2_76, ok2_77, ok2_78, ok2_79, ok2_80, ok2_81, ok2_82, ok2_83, ok2_84, ok2_85, ok2_86, ok2_87, ok2_88, ok2_89, ok2_90, ok2_91, ok2_92, ok2_93, ok2_94, ok2_95, ok2_96, ok2_97, ok2_98, ok2_99, ok2_100, ok2_101, ok2_102, ok2_103, ok2_104, ok2_105, ok2_106, ok2_107, ok2_108, ok2_109, ok2_110, ok2_111, ok2_112, ok2_113, ok2_114, ok2_115, ok2_116, ok2_117, ok2_118, ok2_119, ok2_120, ok2_121, ok2_122, ok2_123, ok2_124, ok2_125, ok2_126, ok2_127, ok2_128, ok2_129, ok2_130, ok2_131, ok2_132, ok2_133, ok2_134, ok2_135, ok2_136, ok2_137, ok3_171, ok3_172, ok3_173, ok3_174, ok3_175, ok3_176, ok4_171, ok4_172, ok4_173, ok4_174, ok4_175, ok4_176, ok4_177, ok4_178, ok5_171, ok5_172, ok5_173, ok5_174, ok5_175, ok5_176, ok5_177, ok5_178, ok5_179, ok7_142, ok7_143, ok7_144, ok7_145, ok7_146, ok7_147, ok7_148, ok7_149, ok7_152, ok7_153, ok7_154, ok8_142, ok8_143, ok8_144, ok8_145, ok8_146, ok8_147, ok8_148, ok8_149, ok8_152, ok8_153, ok8_154, ok8_155, ok9_142, ok9_143, ok9_144, ok9_145, ok9_146, ok9_147, ok9_148, ok9_149, ok9_152, ok9_153, ok9_154, ok9_155, ok9_180, ok10_142, ok10_143, ok10_144, ok10_145, ok10_146, ok10_147, ok10_148, ok10_149, ok10_150, ok10_151, ok11_142, ok11_143, ok11_144, ok11_145, ok11_146, ok11_147, ok11_148, ok11_149, ok11_152, ok11_153, ok11_154, ok11_155, ok11_156, ok11_157, ok13_158, ok13_159, ok13_160, ok13_161, ok13_162, ok13_163, ok13_164, ok13_165, ok13_166, ok13_167, ok13_168, ok13_169, ok13_170, ok16_138, ok16_139, ok16_140, ct_a, ct_a5, ct_b, ct_c, ct_d, ct_r50, ct_r51, ct_r52, ct_r53, ct_r54, ms_T, msR_58, msT_137, msL_137, msR_60, msT_138, msL_138, msR_61, msT_139, msL_139, msR_62, msT_140, msL_140, msR_63, msT_141, msL_141, msR_64, msT_142, msL_142, msR_65, msT_143, msL_143, msR_66, msT_144, msL_144, msR_68, msT_145, msL_145, msR_69, msT_146, msL_146, msR_70, msT_147, msL_147, msR_71, msT_148, msL_148, msR_72, msT_149, msL_149, msR_73, msT_150, msL_150, msR_75, msT_151, msL_151, msR_76, msT_152, msL_152, msR_77, msT_153, msL_153, msR_79, msT_154, msL_154, msR_83, msT_155, msL_155, msR_84, msT_156, msL_156, msR_85, msT_157, msL_157, msR_86, msT_158, msL_158, msR_87, msT_159, msL_159, msR_88, msT_160, msL_160, msR_89, msT_161, msL_161, msR_91, msT_162, msL_162, msR_93, msT_163, msL_163, msR_94, msT_164, msL_164, msR_95, msT_165, msL_165, msR_99, msT_166, msL_166, msR_100, msT_167, msL_167, msR_102, msT_168, msL_168, msR_120, msT_169, msL_169, msR_121, msT_170, msL_170, msR_122, msT_171, msL_171, msR_125, msT_172, msL_172, msR_126, msT_173, msL_173, msR_127, msT_174, msL_174, msR_128, msT_175, msL_175, msR_129, msT_176, msL_176, msR_130, msT_177, msL_177, msR_131, msT_178, msL_178, msR_132, msT_179, msL_179, msR_134, msT_180, msL_180, msR_135, msT_181, msL_181, msR_136, msT_182, msL_182, msR_137, msT_183, msL_183, hM', hI_sI, hJ_sI, hR_sI, hT_sI, hL_sI, hN_sI, hC_sI, hS_sI, hI_sJ, hJ_sJ, hR_sJ, hT_sJ, hL_sJ, hN_sJ, hC_sJ, hS_sJ, hI_sR, hJ_sR, hR_sR, hT_sR, hL_sR, hN_sR, hC_sR, hS_sR, hI_mkx, hJ_mkx, hR_mkx, hT_mkx, hL_mkx, hN_mkx, hC_mkx, hS_mkx, hI_cpI, hJ_cpI, hR_cpI, hT_cpI, hL_cpI, hN_cpI, hC_cpI, hS_cpI, hI_cpJ, hJ_cpJ, hR_cpJ, hT_cpJ, hL_cpJ, hN_cpJ, hC_cpJ, hS_cpJ, hI_cpR, hJ_cpR, hR_cpR, hT_cpR, hL_cpR, hN_cpR, hC_cpR, hS_cpR, nl_i, nl_r, nl_l, nl_n, hI_bmp, hJ_bmp, hR_bmp, hT_bmp, hL_bmp, hN_bmp, hC_bmp, hS_bmp]
    refine whQ (P := fun q : Nat × Nat × Option AV × AH => At d 172 40 [some (vr (some 136)), some (vi (nI c)), some (vi (nI r)), some (vi (nI q.2.1)), some (vi (nI q.1)), q.2.2.1] [] q.2.2.2) (Q := fun q => ∃ G', q = some (.inl none, G') ∧ Sm [155, 156] [] G G' ∧ ∀ x, x < 64 → HopIs (fre s) r c x (hI G' 155 x)) (fun q => ∃ R lv, BQ (fre s) r c q.1 0 q.2.1 R lv ∧ BH q.2.1 R lv q.2.2.2 ∧ Sm [155, 156] [] G q.2.2.2) (fun q => 64 - q.1) ?_ (s := (0, 1, none, sI (sI H 155 c (nI 0)) 156 0 (nI c))) ⟨fun _ => c, fun _ => 0, BQ.init hc, ⟨fun j hj => ?_, fun x hx hn => ?_⟩, h1.trans ((Sm.sI (Or.inl (by decide))).trans (Sm.sI (Or.inl (by decide))))⟩
    · rintro ⟨k, come, l5, K⟩ ⟨R, lv, hB, hH, hSm⟩ ih
      have hMK := hSm.ms hM
      have hTK := hSm.tr (by decide) hT
      obtain ⟨b1, b2, b3⟩ := hB.1
      dsimp only at b1 b2 b3 hB hH hSm hMK hTK ⊢
      by_cases hk : k < come
      · rw [rX2_hopFrom_40]
        simp (disch := omega) only [rX2_hopFrom_0, rX2_hopFrom_1, rX2_hopFrom_3, rX2_hopFrom_5, rX2_hopFrom_8, rX2_hopFrom_9, rX2_hopFrom_12, rX2_hopFrom_13, rX2_hopFrom_14, rX2_hopFrom_15, rX2_hopFrom_18, rX2_hopFrom_21, rX2_hopFrom_22, rX2_hopFrom_25, rX2_hopFrom_26, rX2_hopFrom_27, rX2_hopFrom_28, rX2_hopFrom_29, rX2_hopFrom_32, rX2_hopFrom_33, rX2_hopFrom_34, rX2_hopFrom_35, rX2_hopFrom_36, rX2_hopFrom_37, rX2_hopFrom_38, rX2_hopFrom_42, rX2_hopFrom_43, rX2_hopFrom_46, rX2_hopFrom_47, rX2_hopFrom_51, rX2_hopFrom_53, rX2_hopFrom_56, rX2_hopFrom_57, rX2_hopFrom_59, rX2_hopFrom_62, rX2_hopFrom_65, rX2_hopFrom_66, rX2_hopFrom_69, rX2_hopFrom_71, rX2_hopFrom_72, rX2_hopFrom_75, rX2_hopFrom_76, rX2_hopFrom_79, rX2_hopFrom_81, rX2_hopFrom_82, rX2_hopFrom_84, rX2_hopFrom_87, rX2_hopFrom_88, rX2_hopFrom_91, rX2_hopFrom_92, rX2_hopFrom_95, rX2_hopFrom_97, rX2_hopFrom_98, rX2_hopFrom_101, rX2_hopFrom_102, rX2_hopFrom_105, rX2_hopFrom_107, rX2_hopFrom_108, rX2_hopFrom_109, rX2_hopFrom_110, rX2_hopFrom_111, rX2_hopFrom_112, rX2_hopFrom_113, rX2_hopFrom_116, rX2_hopFrom_117, rX2_hopFrom_119, rX2_hopFrom_120, rX2_hopFrom_123, rX2_hopFrom_126, rX2_hopFrom_129, rX2_hopFrom_132, rX2_hopFrom_135, psh_some, psh_none, bnd_r1, bnd_r0, b01_0, b01_1, lg_lt, lg_eq, lg_gt, lg_ge, lg_le, reduceIte, Bool.false_eq_true, and_true, true_and, and_false, false_and, not_true_eq_false, not_false_eq_true, eq_self, nI_add, nI_mul, nI_div, nI_irm, nI_subk, inb_ok, ix_ok, nI_lt_t, nI_lt_f, nI_le_t, nI_le_f, nI_eq_t, nI_eq_f, nI_z, ifb, ifbn, b01_bI, b01_n, Nat.reduceEqDiff, nl_l, nl_n, nl_i, nl_r, Bool.true_eq_false, reduceIte, if_true, if_false, nl_l, nl_n, nl_i]
        refine lpQ (P := fun z (q : Nat × AH) => At d 172 49 [some (vr (some 136)), some (vi (nI c)), some (vi (nI r)), some (vi (nI q.1)), some (vi (nI k)), some (vi (nI z))] [] q.2) (Q := fun q => ∃ G', q = some (.inl none, G') ∧ Sm [155, 156] [] G G' ∧ ∀ x, x < 64 → HopIs (fre s) r c x (hI G' 155 x)) (fun z q => ∃ R lv, BQ (fre s) r c k z q.1 R lv ∧ BH q.1 R lv q.2 ∧ Sm [155, 156] [] G q.2 ∧ k < q.1) 64 ?_ ?_ (Nat.zero_le _) (s := (come, K)) ⟨R, lv, hB, hH, hSm, hk⟩
        · rintro z ⟨co, M⟩ hz ⟨R, lv, hB, hH, hSm, hk⟩ ihz
          have hMK := hSm.ms hM
          have hTK := hSm.tr (by decide) hT
          have hfr := m_isFree (G := M) hz hMK hTK (show 2 ≤ d - 1 by omega) hS
          obtain ⟨b1, b2, b3⟩ := hB.1
          dsimp only at b1 b2 b3 hB hH hSm hMK hTK hk hfr ⊢
          rw [rX2_hopFrom_49]
          cases hF : fre s z with
          | false =>
            simp (disch := omega) only [rX2_hopFrom_0, rX2_hopFrom_1, rX2_hopFrom_3, rX2_hopFrom_5, rX2_hopFrom_8, rX2_hopFrom_9, rX2_hopFrom_12, rX2_hopFrom_13, rX2_hopFrom_14, rX2_hopFrom_15, rX2_hopFrom_18, rX2_hopFrom_21, rX2_hopFrom_22, rX2_hopFrom_25, rX2_hopFrom_26, rX2_hopFrom_27, rX2_hopFrom_28, rX2_hopFrom_29, rX2_hopFrom_32, rX2_hopFrom_33, rX2_hopFrom_34, rX2_hopFrom_35, rX2_hopFrom_36, rX2_hopFrom_37, rX2_hopFrom_38, rX2_hopFrom_42, rX2_hopFrom_43, rX2_hopFrom_46, rX2_hopFrom_47, rX2_hopFrom_51, rX2_hopFrom_53, rX2_hopFrom_56, rX2_hopFrom_57, rX2_hopFrom_59, rX2_hopFrom_62, rX2_hopFrom_65, rX2_hopFrom_66, rX2_hopFrom_69, rX2_hopFrom_71, rX2_hopFrom_72, rX2_hopFrom_75, rX2_hopFrom_76, rX2_hopFrom_79, rX2_hopFrom_81, rX2_hopFrom_82, rX2_hopFrom_84, rX2_hopFrom_87, rX2_hopFrom_88, rX2_hopFrom_91, rX2_hopFrom_92, rX2_hopFrom_95, rX2_hopFrom_97, rX2_hopFrom_98, rX2_hopFrom_101, rX2_hopFrom_102, rX2_hopFrom_105, rX2_hopFrom_107, rX2_hopFrom_108, rX2_hopFrom_109, rX2_hopFrom_110, rX2_hopFrom_111, rX2_hopFrom_112, rX2_hopFrom_113, rX2_hopFrom_116, rX2_hopFrom_117, rX2_hopFrom_119, rX2_hopFrom_120, rX2_hopFrom_123, rX2_hopFrom_126, rX2_hopFrom_129, rX2_hopFrom_132, rX2_hopFrom_135, psh_some, psh_none, bnd_r1, bnd_r0, b01_0, b01_1, lg_lt, lg_eq, lg_gt, lg_ge, lg_le, reduceIte, Bool.false_eq_true, and_true, true_and, and_false, false_and, not_true_eq_false, not_false_eq_true, eq_self, nI_add, nI_mul, nI_div, nI_irm, nI_subk, inb_ok, ix_ok, nI_lt_t, nI_lt_f, nI_le_t, nI_le_f, nI_eq_t, nI_eq_f, nI_z, ifb, ifbn, b01_bI, b01_n, Nat.reduceEqDiff, nl_l, nl_n, nl_i, nl_r, Bool.true_eq_false, reduceIte, if_true, if_false, ms_T, msR_58, msT_137, msL_137, msR_60, msT_138, msL_138, msR_61, msT_139, msL_139, msR_62, msT_140, msL_140, msR_63, msT_141, msL_141, msR_64, msT_142, msL_142, msR_65, msT_143, msL_143, msR_66, msT_144, msL_144, msR_68, msT_145, msL_145, msR_69, msT_146, msL_146, msR_70, msT_147, msL_147, msR_71, msT_148, msL_148, msR_72, msT_149, msL_149, msR_73, msT_150, msL_150, msR_75, msT_151, msL_151, msR_76, msT_152, msL_152, msR_77, msT_153, msL_153, msR_79, msT_154, msL_154, msR_83, msT_155, msL_155, msR_84, msT_156, msL_156, msR_85, msT_157, msL_157, msR_86, msT_158, msL_158, msR_87, msT_159, msL_159, msR_88, msT_160, msL_160, msR_89, msT_161, msL_161, msR_91, msT_162, msL_162, msR_93, msT_163, msL_163, msR_94, msT_164, msL_164, msR_95, msT_165, msL_165, msR_99, msT_166, msL_166, msR_100, msT_167, msL_167, msR_102, msT_168, msL_168, msR_120, msT_169, msL_169, msR_121, msT_170, msL_170, msR_122, msT_171, msL_171, msR_125, msT_172, msL_172, msR_126, msT_173, msL_173, msR_127, msT_174, msL_174, msR_128, msT_175, msL_175, msR_129, msT_176, msL_176, msR_130, msT_177, msL_177, msR_131, msT_178, msL_178, msR_132, msT_179, msL_179, msR_134, msT_180, msL_180, msR_135, msT_181, msL_181, msR_136, msT_182, msL_182, msR_137, msT_183, msL_183, hMK, hfr, hF, nl_l, nl_n, nl_i]
            exact ihz (co, M) ⟨R, lv, hB.skip (fun q => by rw [hF] at q; cases q), hH, hSm, hk⟩
          | true =>
            by_cases hin : ∃ j, j < co ∧ R j = z
            · obtain ⟨j, hj, rfl⟩ := hin
              have hv := (hH.1 j hj).2
              have hl := (hB.2.1 j hj).2.1
              simp (disch := omega) only [rX2_hopFrom_0, rX2_hopFrom_1, rX2_hopFrom_3, rX2_hopFrom_5, rX2_hopFrom_8, rX2_hopFrom_9, rX2_hopFrom_12, rX2_hopFrom_13, rX2_hopFrom_14, rX2_hopFrom_15, rX2_hopFrom_18, rX2_hopFrom_21, rX2_hopFrom_22, rX2_hopFrom_25, rX2_hopFrom_26, rX2_hopFrom_27, rX2_hopFrom_28, rX2_hopFrom_29, rX2_hopFrom_32, rX2_hopFrom_33, rX2_hopFrom_34, rX2_hopFrom_35, rX2_hopFrom_36, rX2_hopFrom_37, rX2_hopFrom_38, rX2_hopFrom_42, rX2_hopFrom_43, rX2_hopFrom_46, rX2_hopFrom_47, rX2_hopFrom_51, rX2_hopFrom_53, rX2_hopFrom_56, rX2_hopFrom_57, rX2_hopFrom_59, rX2_hopFrom_62, rX2_hopFrom_65, rX2_hopFrom_66, rX2_hopFrom_69, rX2_hopFrom_71, rX2_hopFrom_72, rX2_hopFrom_75, rX2_hopFrom_76, rX2_hopFrom_79, rX2_hopFrom_81, rX2_hopFrom_82, rX2_hopFrom_84, rX2_hopFrom_87, rX2_hopFrom_88, rX2_hopFrom_91, rX2_hopFrom_92, rX2_hopFrom_95, rX2_hopFrom_97, rX2_hopFrom_98, rX2_hopFrom_101, rX2_hopFrom_102, rX2_hopFrom_105, rX2_hopFrom_107, rX2_hopFrom_108, rX2_hopFrom_109, rX2_hopFrom_110, rX2_hopFrom_111, rX2_hopFrom_112, rX2_hopFrom_113, rX2_hopFrom_116, rX2_hopFrom_117, rX2_hopFrom_119, rX2_hopFrom_120, rX2_hopFrom_123, rX2_hopFrom_126, rX2_hopFrom_129, rX2_hopFrom_132, rX2_hopFrom_135, psh_some, psh_none, bnd_r1, bnd_r0, b01_0, b01_1, lg_lt, lg_eq, lg_gt, lg_ge, lg_le, reduceIte, Bool.false_eq_true, and_true, true_and, and_false, false_and, not_true_eq_false, not_false_eq_true, eq_self, nI_add, nI_mul, nI_div, nI_irm, nI_subk, inb_ok, ix_ok, nI_lt_t, nI_lt_f, nI_le_t, nI_le_f, nI_eq_t, nI_eq_f, nI_z, ifb, ifbn, b01_bI, b01_n, Nat.reduceEqDiff, nl_l, nl_n, nl_i, nl_r, Bool.true_eq_false, reduceIte, if_true, if_false, ok0_0, ok0_1, ok0_2, ok0_3, ok0_4, ok0_5, ok0_6, ok0_7, ok0_8, ok0_9, ok0_10, ok0_11, ok0_12, ok0_13, ok0_14, ok0_15, ok0_16, ok0_17, ok0_18, ok0_19, ok0_20, ok0_21, ok0_22, ok0_23, ok0_24, ok0_25, ok0_26, ok0_27, ok0_28, ok0_29, ok0_30, ok0_31, ok0_32, ok0_33, ok0_34, ok0_35, ok0_36, ok0_37, ok0_38, ok0_39, ok0_40, ok0_41, ok0_42, ok0_43, ok0_44, ok0_45, ok0_46, ok0_47, ok0_48, ok0_49, ok0_50, ok0_51, ok0_52, ok0_53, ok0_54, ok1_141, ok2_55, ok2_56, ok2_57, ok2_58, ok2_59, ok2_60, ok2_61, ok2_62, ok2_63, ok2_64, ok2_65, ok2_66, ok2_67, ok2_68, ok2_69, ok2_70, ok2_71, ok2_72, ok2_73, ok2_74, ok2_75, ok2_76, ok2_77, ok2_78, ok2_79, ok2_80, ok2_81, ok2_82, ok2_83, ok2_84, ok2_85, ok2_86, ok2_87, ok2_88, ok2_89, ok2_90, ok2_91, ok2_92, ok2_93, ok2_94, ok2_95, ok2_96, ok2_97, ok2_98, ok2_99, ok2_100, ok2_101, ok2_102, ok2_103, ok2_104, ok2_105, ok2_106, ok2_107, ok2_108, ok2_109, ok2_110, ok2_111, ok2_112, ok2_113, ok2_114, ok2_115, ok2_116, ok2_117, ok2_118, ok2_119, ok2_120, ok2_121, ok2_122, ok2_123, ok2_124, ok2_125, ok2_126, ok2_127, ok2_128, ok2_129, ok2_130, ok2_131, ok2_132, ok2_133, ok2_134, ok2_135, ok2_136, ok2_137, ok3_171, ok3_172, ok3_173, ok3_174, ok3_175, ok3_176, ok4_171, ok4_172, ok4_173, ok4_174, ok4_175, ok4_176, ok4_177, ok4_178, ok5_171, ok5_172, ok5_173, ok5_174, ok5_175, ok5_176, ok5_177, ok5_178, ok5_179, ok7_142, ok7_143, ok7_144, ok7_145, ok7_146, ok7_147, ok7_148, ok7_149, ok7_152, ok7_153, ok7_154, ok8_142, ok8_143, ok8_144, ok8_145, ok8_146, ok8_147, ok8_148, ok8_149, ok8_152, ok8_153, ok8_154, ok8_155, ok9_142, ok9_143, ok9_144, ok9_145, ok9_146, ok9_147, ok9_148, ok9_149, ok9_152, ok9_153, ok9_154, ok9_155, ok9_180, ok10_142, ok10_143, ok10_144, ok10_145, ok10_146, ok10_147, ok10_148, ok10_149, ok10_150, ok10_151, ok11_142, ok11_143, ok11_144, ok11_145, ok11_146, ok11_147, ok11_148, ok11_149, ok11_152, ok11_153, ok11_154, ok11_155, ok11_156, ok11_157, ok13_158, ok13_159, ok13_160, ok13_161, ok13_162, ok13_163, ok13_164, ok13_165, ok13_166, ok13_167, ok13_168, ok13_169, ok13_170, ok16_138, ok16_139, ok16_140, ct_a, ct_a5, ct_b, ct_c, ct_d, ct_r50, ct_r51, ct_r52, ct_r53, ct_r54, ms_T, msR_58, msT_137, msL_137, msR_60, msT_138, msL_138, msR_61, msT_139, msL_139, msR_62, msT_140, msL_140, msR_63, msT_141, msL_141, msR_64, msT_142, msL_142, msR_65, msT_143, msL_143, msR_66, msT_144, msL_144, msR_68, msT_145, msL_145, msR_69, msT_146, msL_146, msR_70, msT_147, msL_147, msR_71, msT_148, msL_148, msR_72, msT_149, msL_149, msR_73, msT_150, msL_150, msR_75, msT_151, msL_151, msR_76, msT_152, msL_152, msR_77, msT_153, msL_153, msR_79, msT_154, msL_154, msR_83, msT_155, msL_155, msR_84, msT_156, msL_156, msR_85, msT_157, msL_157, msR_86, msT_158, msL_158, msR_87, msT_159, msL_159, msR_88, msT_160, msL_160, msR_89, msT_161, msL_161, msR_91, msT_162, msL_162, msR_93, msT_163, msL_163, msR_94, msT_164, msL_164, msR_95, msT_165, msL_165, msR_99, msT_166, msL_166, msR_100, msT_167, msL_167, msR_102, msT_168, msL_168, msR_120, msT_169, msL_169, msR_121, msT_170, msL_170, msR_122, msT_171, msL_171, msR_125, msT_172, msL_172, msR_126, msT_173, msL_173, msR_127, msT_174, msL_174, msR_128, msT_175, msL_175, msR_129, msT_176, msL_176, msR_130, msT_177, msL_177, msR_131, msT_178, msL_178, msR_132, msT_179, msL_179, msR_134, msT_180, msL_180, msR_135, msT_181, msL_181, msR_136, msT_182, msL_182, msR_137, msT_183, msL_183, hMK, hfr, hF, hv, nl_l, nl_n, nl_i]
              exact ihz (co, M) ⟨R, lv, hB.skip (fun _ _ => ⟨j, hj, rfl⟩), hH, hSm, hk⟩
            · have hnew : ∀ j, j < co → R j ≠ z := fun j hj q => hin ⟨j, hj, q⟩
              have hv := hH.2 z hz hnew
              have hrow := (hH.1 k hk).1
              have hlv := (hH.1 k hk).2
              have hRk := (hB.2.1 k hk).1
              have hlk := (hB.2.1 k hk).2.1
              have hfle := fr_le hRk hz
              by_cases hr2 : fr (R k) z ≤ r
              · obtain ⟨hB2, hco⟩ := hB.add hk hz hF hr2 hnew
                have hH2 := hH.add hB hz hnew rfl
                simp (disch := omega) only [rX2_hopFrom_0, rX2_hopFrom_1, rX2_hopFrom_3, rX2_hopFrom_5, rX2_hopFrom_8, rX2_hopFrom_9, rX2_hopFrom_12, rX2_hopFrom_13, rX2_hopFrom_14, rX2_hopFrom_15, rX2_hopFrom_18, rX2_hopFrom_21, rX2_hopFrom_22, rX2_hopFrom_25, rX2_hopFrom_26, rX2_hopFrom_27, rX2_hopFrom_28, rX2_hopFrom_29, rX2_hopFrom_32, rX2_hopFrom_33, rX2_hopFrom_34, rX2_hopFrom_35, rX2_hopFrom_36, rX2_hopFrom_37, rX2_hopFrom_38, rX2_hopFrom_42, rX2_hopFrom_43, rX2_hopFrom_46, rX2_hopFrom_47, rX2_hopFrom_51, rX2_hopFrom_53, rX2_hopFrom_56, rX2_hopFrom_57, rX2_hopFrom_59, rX2_hopFrom_62, rX2_hopFrom_65, rX2_hopFrom_66, rX2_hopFrom_69, rX2_hopFrom_71, rX2_hopFrom_72, rX2_hopFrom_75, rX2_hopFrom_76, rX2_hopFrom_79, rX2_hopFrom_81, rX2_hopFrom_82, rX2_hopFrom_84, rX2_hopFrom_87, rX2_hopFrom_88, rX2_hopFrom_91, rX2_hopFrom_92, rX2_hopFrom_95, rX2_hopFrom_97, rX2_hopFrom_98, rX2_hopFrom_101, rX2_hopFrom_102, rX2_hopFrom_105, rX2_hopFrom_107, rX2_hopFrom_108, rX2_hopFrom_109, rX2_hopFrom_110, rX2_hopFrom_111, rX2_hopFrom_112, rX2_hopFrom_113, rX2_hopFrom_116, rX2_hopFrom_117, rX2_hopFrom_119, rX2_hopFrom_120, rX2_hopFrom_123, rX2_hopFrom_126, rX2_hopFrom_129, rX2_hopFrom_132, rX2_hopFrom_135, psh_some, psh_none, bnd_r1, bnd_r0, b01_0, b01_1, lg_lt, lg_eq, lg_gt, lg_ge, lg_le, reduceIte, Bool.false_eq_true, and_true, true_and, and_false, false_and, not_true_eq_false, not_false_eq_true, eq_self, nI_add, nI_mul, nI_div, nI_irm, nI_subk, inb_ok, ix_ok, nI_lt_t, nI_lt_f, nI_le_t, nI_le_f, nI_eq_t, nI_eq_f, nI_z, ifb, ifbn, b01_bI, b01_n, Nat.reduceEqDiff, nl_l, nl_n, nl_i, nl_r, Bool.true_eq_false, reduceIte, if_true, if_false, ok0_0, ok0_1, ok0_2, ok0_3, ok0_4, ok0_5, ok0_6, ok0_7, ok0_8, ok0_9, ok0_10, ok0_11, ok0_12, ok0_13, ok0_14, ok0_15, ok0_16, ok0_17, ok0_18, ok0_19, ok0_20, ok0_21, ok0_22, ok0_23, ok0_24, ok0_25, ok0_26, ok0_27, ok0_28, ok0_29, ok0_30, ok0_31, ok0_32, ok0_33, ok0_34, ok0_35, ok0_36, ok0_37, ok0_38, ok0_39, ok0_40, ok0_41, ok0_42, ok0_43, ok0_44, ok0_45, ok0_46, ok0_47, ok0_48, ok0_49, ok0_50, ok0_51, ok0_52, ok0_53, ok0_54, ok1_141, ok2_55, ok2_56, ok2_57, ok2_58, ok2_59, ok2_60, ok2_61, ok2_62, ok2_63, ok2_64, ok2_65, ok2_66, ok2_67, ok2_68, ok2_69, ok2_70, ok2_71, ok2_72, ok2_73, ok2_74, ok2_75, ok2_76, ok2_77, ok2_78, ok2_79, ok2_80, ok2_81, ok2_82, ok2_83, ok2_84, ok2_85, ok2_86, ok2_87, ok2_88, ok2_89, ok2_90, ok2_91, ok2_92, ok2_93, ok2_94, ok2_95, ok2_96, ok2_97, ok2_98, ok2_99, ok2_100, ok2_101, ok2_102, ok2_103, ok2_104, ok2_105, ok2_106, ok2_107, ok2_108, ok2_109, ok2_110, ok2_111, ok2_112, ok2_113, ok2_114, ok2_115, ok2_116, ok2_117, ok2_118, ok2_119, ok2_120, ok2_121, ok2_122, ok2_123, ok2_124, ok2_125, ok2_126, ok2_127, ok2_128, ok2_129, ok2_130, ok2_131, ok2_132, ok2_133, ok2_134, ok2_135, ok2_136, ok2_137, ok3_171, ok3_172, ok3_173, ok3_174, ok3_175, ok3_176, ok4_171, ok4_172, ok4_173, ok4_174, ok4_175, ok4_176, ok4_177, ok4_178, ok5_171, ok5_172, ok5_173, ok5_174, ok5_175, ok5_176, ok5_177, ok5_178, ok5_179, ok7_142, ok7_143, ok7_144, ok7_145, ok7_146, ok7_147, ok7_148, ok7_149, ok7_152, ok7_153, ok7_154, ok8_142, ok8_143, ok8_144, ok8_145, ok8_146, ok8_147, ok8_148, ok8_149, ok8_152, ok8_153, ok8_154, ok8_155, ok9_142, ok9_143, ok9_144, ok9_145, ok9_146, ok9_147, ok9_148, ok9_149, ok9_152, ok9_153, ok9_154, ok9_155, ok9_180, ok10_142, ok10_143, ok10_144, ok10_145, ok10_146, ok10_147, ok10_148, ok10_149, ok10_150, ok10_151, ok11_142, ok11_143, ok11_144, ok11_145, ok11_146, ok11_147, ok11_148, ok11_149, ok11_152, ok11_153, ok11_154, ok11_155, ok11_156, ok11_157, ok13_158, ok13_159, ok13_160, ok13_161, ok13_162, ok13_163, ok13_164, ok13_165, ok13_166, ok13_167, ok13_168, ok13_169, ok13_170, ok16_138, ok16_139, ok16_140, ct_a, ct_a5, ct_b, ct_c, ct_d, ct_r50, ct_r51, ct_r52, ct_r53, ct_r54, ms_T, msR_58, msT_137, msL_137, msR_60, msT_138, msL_138, msR_61, msT_139, msL_139, msR_62, msT_140, msL_140, msR_63, msT_141, msL_141, msR_64, msT_142, msL_142, msR_65, msT_143, msL_143, msR_66, msT_144, msL_144, msR_68, msT_145, msL_145, msR_69, msT_146, msL_146, msR_70, msT_147, msL_147, msR_71, msT_148, msL_148, msR_72, msT_149, msL_149, msR_73, msT_150, msL_150, msR_75, msT_151, msL_151, msR_76, msT_152, msL_152, msR_77, msT_153, msL_153, msR_79, msT_154, msL_154, msR_83, msT_155, msL_155, msR_84, msT_156, msL_156, msR_85, msT_157, msL_157, msR_86, msT_158, msL_158, msR_87, msT_159, msL_159, msR_88, msT_160, msL_160, msR_89, msT_161, msL_161, msR_91, msT_162, msL_162, msR_93, msT_163, msL_163, msR_94, msT_164, msL_164, msR_95, msT_165, msL_165, msR_99, msT_166, msL_166, msR_100, msT_167, msL_167, msR_102, msT_168, msL_168, msR_120, msT_169, msL_169, msR_121, msT_170, msL_170, msR_122, msT_171, msL_171, msR_125, msT_172, msL_172, msR_126, msT_173, msL_173, msR_127, msT_174, msL_174, msR_128, msT_175, msL_175, msR_129, msT_176, msL_176, msR_130, msT_177, msL_177, msR_131, msT_178, msL_178, msR_132, msT_179, msL_179, msR_134, msT_180, msL_180, msR_135, msT_181, msL_181, msR_136, msT_182, msL_182, msR_137, msT_183, msL_183, hMK, hfr, hF, hv, hrow, hlv, m_distance hRk hz, show ¬ nI 0 ≤ (-1 : Int32) by decide, nl_l, nl_n, nl_i, hI_sI, hJ_sI, hR_sI, hT_sI, hL_sI, hN_sI, hC_sI, hS_sI, hI_sJ, hJ_sJ, hR_sJ, hT_sJ, hL_sJ, hN_sJ, hC_sJ, hS_sJ, hI_sR, hJ_sR, hR_sR, hT_sR, hL_sR, hN_sR, hC_sR, hS_sR, hI_mkx, hJ_mkx, hR_mkx, hT_mkx, hL_mkx, hN_mkx, hC_mkx, hS_mkx, hI_cpI, hJ_cpI, hR_cpI, hT_cpI, hL_cpI, hN_cpI, hC_cpI, hS_cpI, hI_cpJ, hJ_cpJ, hR_cpJ, hT_cpJ, hL_cpJ, hN_cpJ, hC_cpJ, hS_cpJ, hI_cpR, hJ_cpR, hR_cpR, hT_cpR, hL_cpR, hN_cpR, hC_cpR, hS_cpR, nl_i, nl_r, nl_l, nl_n, hI_bmp, hJ_bmp, hR_bmp, hT_bmp, hL_bmp, hN_bmp, hC_bmp, hS_bmp]
                exact ihz (co + 1, _) ⟨_, _, hB2, hH2, hSm.trans ((Sm.sI (Or.inl (by decide))).trans (Sm.sI (Or.inl (by decide)))), by omega⟩
              · simp (disch := omega) only [rX2_hopFrom_0, rX2_hopFrom_1, rX2_hopFrom_3, rX2_hopFrom_5, rX2_hopFrom_8, rX2_hopFrom_9, rX2_hopFrom_12, rX2_hopFrom_13, rX2_hopFrom_14, rX2_hopFrom_15, rX2_hopFrom_18, rX2_hopFrom_21, rX2_hopFrom_22, rX2_hopFrom_25, rX2_hopFrom_26, rX2_hopFrom_27, rX2_hopFrom_28, rX2_hopFrom_29, rX2_hopFrom_32, rX2_hopFrom_33, rX2_hopFrom_34, rX2_hopFrom_35, rX2_hopFrom_36, rX2_hopFrom_37, rX2_hopFrom_38, rX2_hopFrom_42, rX2_hopFrom_43, rX2_hopFrom_46, rX2_hopFrom_47, rX2_hopFrom_51, rX2_hopFrom_53, rX2_hopFrom_56, rX2_hopFrom_57, rX2_hopFrom_59, rX2_hopFrom_62, rX2_hopFrom_65, rX2_hopFrom_66, rX2_hopFrom_69, rX2_hopFrom_71, rX2_hopFrom_72, rX2_hopFrom_75, rX2_hopFrom_76, rX2_hopFrom_79, rX2_hopFrom_81, rX2_hopFrom_82, rX2_hopFrom_84, rX2_hopFrom_87, rX2_hopFrom_88, rX2_hopFrom_91, rX2_hopFrom_92, rX2_hopFrom_95, rX2_hopFrom_97, rX2_hopFrom_98, rX2_hopFrom_101, rX2_hopFrom_102, rX2_hopFrom_105, rX2_hopFrom_107, rX2_hopFrom_108, rX2_hopFrom_109, rX2_hopFrom_110, rX2_hopFrom_111, rX2_hopFrom_112, rX2_hopFrom_113, rX2_hopFrom_116, rX2_hopFrom_117, rX2_hopFrom_119, rX2_hopFrom_120, rX2_hopFrom_123, rX2_hopFrom_126, rX2_hopFrom_129, rX2_hopFrom_132, rX2_hopFrom_135, psh_some, psh_none, bnd_r1, bnd_r0, b01_0, b01_1, lg_lt, lg_eq, lg_gt, lg_ge, lg_le, reduceIte, Bool.false_eq_true, and_true, true_and, and_false, false_and, not_true_eq_false, not_false_eq_true, eq_self, nI_add, nI_mul, nI_div, nI_irm, nI_subk, inb_ok, ix_ok, nI_lt_t, nI_lt_f, nI_le_t, nI_le_f, nI_eq_t, nI_eq_f, nI_z, ifb, ifbn, b01_bI, b01_n, Nat.reduceEqDiff, nl_l, nl_n, nl_i, nl_r, Bool.true_eq_false, reduceIte, if_true, if_false, ok0_0, ok0_1, ok0_2, ok0_3, ok0_4, ok0_5, ok0_6, ok0_7, ok0_8, ok0_9, ok0_10, ok0_11, ok0_12, ok0_13, ok0_14, ok0_15, ok0_16, ok0_17, ok0_18, ok0_19, ok0_20, ok0_21, ok0_22, ok0_23, ok0_24, ok0_25, ok0_26, ok0_27, ok0_28, ok0_29, ok0_30, ok0_31, ok0_32, ok0_33, ok0_34, ok0_35, ok0_36, ok0_37, ok0_38, ok0_39, ok0_40, ok0_41, ok0_42, ok0_43, ok0_44, ok0_45, ok0_46, ok0_47, ok0_48, ok0_49, ok0_50, ok0_51, ok0_52, ok0_53, ok0_54, ok1_141, ok2_55, ok2_56, ok2_57, ok2_58, ok2_59, ok2_60, ok2_61, ok2_62, ok2_63, ok2_64, ok2_65, ok2_66, ok2_67, ok2_68, ok2_69, ok2_70, ok2_71, ok2_72, ok2_73, ok2_74, ok2_75, ok2_76, ok2_77, ok2_78, ok2_79, ok2_80, ok2_81, ok2_82, ok2_83, ok2_84, ok2_85, ok2_86, ok2_87, ok2_88, ok2_89, ok2_90, ok2_91, ok2_92, ok2_93, ok2_94, ok2_95, ok2_96, ok2_97, ok2_98, ok2_99, ok2_100, ok2_101, ok2_102, ok2_103, ok2_104, ok2_105, ok2_106, ok2_107, ok2_108, ok2_109, ok2_110, ok2_111, ok2_112, ok2_113, ok2_114, ok2_115, ok2_116, ok2_117, ok2_118, ok2_119, ok2_120, ok2_121, ok2_122, ok2_123, ok2_124, ok2_125, ok2_126, ok2_127, ok2_128, ok2_129, ok2_130, ok2_131, ok2_132, ok2_133, ok2_134, ok2_135, ok2_136, ok2_137, ok3_171, ok3_172, ok3_173, ok3_174, ok3_175, ok3_176, ok4_171, ok4_172, ok4_173, ok4_174, ok4_175, ok4_176, ok4_177, ok4_178, ok5_171, ok5_172, ok5_173, ok5_174, ok5_175, ok5_176, ok5_177, ok5_178, ok5_179, ok7_142, ok7_143, ok7_144, ok7_145, ok7_146, ok7_147, ok7_148, ok7_149, ok7_152, ok7_153, ok7_154, ok8_142, ok8_143, ok8_144, ok8_145, ok8_146, ok8_147, ok8_148, ok8_149, ok8_152, ok8_153, ok8_154, ok8_155, ok9_142, ok9_143, ok9_144, ok9_145, ok9_146, ok9_147, ok9_148, ok9_149, ok9_152, ok9_153, ok9_154, ok9_155, ok9_180, ok10_142, ok10_143, ok10_144, ok10_145, ok10_146, ok10_147, ok10_148, ok10_149, ok10_150, ok10_151, ok11_142, ok11_143, ok11_144, ok11_145, ok11_146, ok11_147, ok11_148, ok11_149, ok11_152, ok11_153, ok11_154, ok11_155, ok11_156, ok11_157, ok13_158, ok13_159, ok13_160, ok13_161, ok13_162, ok13_163, ok13_164, ok13_165, ok13_166, ok13_167, ok13_168, ok13_169, ok13_170, ok16_138, ok16_139, ok16_140, ct_a, ct_a5, ct_b, ct_c, ct_d, ct_r50, ct_r51, ct_r52, ct_r53, ct_r54, ms_T, msR_58, msT_137, msL_137, msR_60, msT_138, msL_138, msR_61, msT_139, msL_139, msR_62, msT_140, msL_140, msR_63, msT_141, msL_141, msR_64, msT_142, msL_142, msR_65, msT_143, msL_143, msR_66, msT_144, msL_144, msR_68, msT_145, msL_145, msR_69, msT_146, msL_146, msR_70, msT_147, msL_147, msR_71, msT_148, msL_148, msR_72, msT_149, msL_149, msR_73, msT_150, msL_150, msR_75, msT_151, msL_151, msR_76, msT_152, msL_152, msR_77, msT_153, msL_153, msR_79, msT_154, msL_154, msR_83, msT_155, msL_155, msR_84, msT_156, msL_156, msR_85, msT_157, msL_157, msR_86, msT_158, msL_158, msR_87, msT_159, msL_159, msR_88, msT_160, msL_160, msR_89, msT_161, msL_161, msR_91, msT_162, msL_162, msR_93, msT_163, msL_163, msR_94, msT_164, msL_164, msR_95, msT_165, msL_165, msR_99, msT_166, msL_166, msR_100, msT_167, msL_167, msR_102, msT_168, msL_168, msR_120, msT_169, msL_169, msR_121, msT_170, msL_170, msR_122, msT_171, msL_171, msR_125, msT_172, msL_172, msR_126, msT_173, msL_173, msR_127, msT_174, msL_174, msR_128, msT_175, msL_175, msR_129, msT_176, msL_176, msR_130, msT_177, msL_177, msR_131, msT_178, msL_178, msR_132, msT_179, msL_179, msR_134, msT_180, msL_180, msR_135, msT_181, msL_181, msR_136, msT_182, msL_182, msR_137, msT_183, msL_183, hMK, hfr, hF, hv, hrow, m_distance hRk hz, show ¬ nI 0 ≤ (-1 : Int32) by decide, nl_l, nl_n, nl_i]
                exact ihz (co, M) ⟨R, lv, hB.skip (fun _ q => absurd q hr2), hH, hSm, hk⟩
        · rintro ⟨co, M⟩ ⟨R, lv, hB, hH, hSm, hk⟩
          obtain ⟨b1, b2, b3⟩ := hB.1
          dsimp only at b1 b2 b3 hB hH hSm hk ⊢
          rw [rX2_hopFrom_49]
          simp (disch := omega) only [rX2_hopFrom_0, rX2_hopFrom_1, rX2_hopFrom_3, rX2_hopFrom_5, rX2_hopFrom_8, rX2_hopFrom_9, rX2_hopFrom_12, rX2_hopFrom_13, rX2_hopFrom_14, rX2_hopFrom_15, rX2_hopFrom_18, rX2_hopFrom_21, rX2_hopFrom_22, rX2_hopFrom_25, rX2_hopFrom_26, rX2_hopFrom_27, rX2_hopFrom_28, rX2_hopFrom_29, rX2_hopFrom_32, rX2_hopFrom_33, rX2_hopFrom_34, rX2_hopFrom_35, rX2_hopFrom_36, rX2_hopFrom_37, rX2_hopFrom_38, rX2_hopFrom_42, rX2_hopFrom_43, rX2_hopFrom_46, rX2_hopFrom_47, rX2_hopFrom_51, rX2_hopFrom_53, rX2_hopFrom_56, rX2_hopFrom_57, rX2_hopFrom_59, rX2_hopFrom_62, rX2_hopFrom_65, rX2_hopFrom_66, rX2_hopFrom_69, rX2_hopFrom_71, rX2_hopFrom_72, rX2_hopFrom_75, rX2_hopFrom_76, rX2_hopFrom_79, rX2_hopFrom_81, rX2_hopFrom_82, rX2_hopFrom_84, rX2_hopFrom_87, rX2_hopFrom_88, rX2_hopFrom_91, rX2_hopFrom_92, rX2_hopFrom_95, rX2_hopFrom_97, rX2_hopFrom_98, rX2_hopFrom_101, rX2_hopFrom_102, rX2_hopFrom_105, rX2_hopFrom_107, rX2_hopFrom_108, rX2_hopFrom_109, rX2_hopFrom_110, rX2_hopFrom_111, rX2_hopFrom_112, rX2_hopFrom_113, rX2_hopFrom_116, rX2_hopFrom_117, rX2_hopFrom_119, rX2_hopFrom_120, rX2_hopFrom_123, rX2_hopFrom_126, rX2_hopFrom_129, rX2_hopFrom_132, rX2_hopFrom_135, psh_some, psh_none, bnd_r1, bnd_r0, b01_0, b01_1, lg_lt, lg_eq, lg_gt, lg_ge, lg_le, reduceIte, Bool.false_eq_true, and_true, true_and, and_false, false_and, not_true_eq_false, not_false_eq_true, eq_self, nI_add, nI_mul, nI_div, nI_irm, nI_subk, inb_ok, ix_ok, nI_lt_t, nI_lt_f, nI_le_t, nI_le_f, nI_eq_t, nI_eq_f, nI_z, ifb, ifbn, b01_bI, b01_n, Nat.reduceEqDiff, nl_l, nl_n, nl_i, nl_r, Bool.true_eq_false, reduceIte, if_true, if_false, nl_l, nl_n, nl_i]
          exact ih (k + 1, co, some (vi (nI 64)), M) ⟨R, lv, hB.next hk, hH, hSm⟩ (by dsimp only; omega)
      · have hkc : k = come := by omega
        subst hkc
        rw [rX2_hopFrom_40]
        simp (disch := omega) only [rX2_hopFrom_0, rX2_hopFrom_1, rX2_hopFrom_3, rX2_hopFrom_5, rX2_hopFrom_8, rX2_hopFrom_9, rX2_hopFrom_12, rX2_hopFrom_13, rX2_hopFrom_14, rX2_hopFrom_15, rX2_hopFrom_18, rX2_hopFrom_21, rX2_hopFrom_22, rX2_hopFrom_25, rX2_hopFrom_26, rX2_hopFrom_27, rX2_hopFrom_28, rX2_hopFrom_29, rX2_hopFrom_32, rX2_hopFrom_33, rX2_hopFrom_34, rX2_hopFrom_35, rX2_hopFrom_36, rX2_hopFrom_37, rX2_hopFrom_38, rX2_hopFrom_42, rX2_hopFrom_43, rX2_hopFrom_46, rX2_hopFrom_47, rX2_hopFrom_51, rX2_hopFrom_53, rX2_hopFrom_56, rX2_hopFrom_57, rX2_hopFrom_59, rX2_hopFrom_62, rX2_hopFrom_65, rX2_hopFrom_66, rX2_hopFrom_69, rX2_hopFrom_71, rX2_hopFrom_72, rX2_hopFrom_75, rX2_hopFrom_76, rX2_hopFrom_79, rX2_hopFrom_81, rX2_hopFrom_82, rX2_hopFrom_84, rX2_hopFrom_87, rX2_hopFrom_88, rX2_hopFrom_91, rX2_hopFrom_92, rX2_hopFrom_95, rX2_hopFrom_97, rX2_hopFrom_98, rX2_hopFrom_101, rX2_hopFrom_102, rX2_hopFrom_105, rX2_hopFrom_107, rX2_hopFrom_108, rX2_hopFrom_109, rX2_hopFrom_110, rX2_hopFrom_111, rX2_hopFrom_112, rX2_hopFrom_113, rX2_hopFrom_116, rX2_hopFrom_117, rX2_hopFrom_119, rX2_hopFrom_120, rX2_hopFrom_123, rX2_hopFrom_126, rX2_hopFrom_129, rX2_hopFrom_132, rX2_hopFrom_135, psh_some, psh_none, bnd_r1, bnd_r0, b01_0, b01_1, lg_lt, lg_eq, lg_gt, lg_ge, lg_le, reduceIte, Bool.false_eq_true, and_true, true_and, and_false, false_and, not_true_eq_false, not_false_eq_true, eq_self, nI_add, nI_mul, nI_div, nI_irm, nI_subk, inb_ok, ix_ok, nI_lt_t, nI_lt_f, nI_le_t, nI_le_f, nI_eq_t, nI_eq_f, nI_z, ifb, ifbn, b01_bI, b01_n, Nat.reduceEqDiff, nl_l, nl_n, nl_i, nl_r, Bool.true_eq_false, reduceIte, if_true, if_false, nl_l, nl_n, nl_i]
        refine ⟨K, rfl, hSm, fun x hx => ?_⟩
        by_cases hin : ∃ j, j < k ∧ R j = x
        · obtain ⟨j, hj, rfl⟩ := hin
          have := (hB.2.1 j hj).2.1
          exact Or.inl ⟨lv (R j), by omega, (hH.1 j hj).2, (hB.2.1 j hj).2.2⟩
        · have hnew : ∀ j, j < k → R j ≠ x := fun j hj q => hin ⟨j, hj, q⟩
          refine Or.inr ⟨hH.2 x hx hnew, fun n => bf_of fun hb => ?_⟩
          exact hin (hB.full (N := n) (fun i hi _ => hi) n (Nat.le_refl _) x hx hb)
    · have hj : j < 1 := hj
      have : j = 0 := by omega
      subst this
      exact ⟨by rw [hI_sI, if_pos ⟨rfl, rfl⟩], by rw [hI_sI, if_neg (by omega), hI_sI, if_pos ⟨rfl, rfl⟩]⟩
    · have hxc : ¬ x = c := fun q => hn 0 (show 0 < 1 by decide) q.symm
      rw [hI_sI, if_neg (by omega), hI_sI, if_neg (fun q => hxc q.2)]
      exact h2 x hx
end
