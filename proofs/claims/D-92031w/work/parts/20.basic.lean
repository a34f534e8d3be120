/-! contracts: the small static methods of HeardPlaces -/
theorem c_isIn {d : Nat} {G : AH} {v l h : Int64} : cl d 4 [vl v, vl l, vl h] G = some (.inl (some (vi (bI (decide (l ≤ v ∧ v ≤ h))))), G) := by
  rw [en4]
  simp only [rX0_isIn_0, rX0_isIn_1, rX0_isIn_2, rX0_isIn_3, rX0_isIn_6, rX0_isIn_7, rX0_isIn_9, rX0_isIn_10, rX0_isIn_13, rX0_isIn_14, rX0_isIn_17, rX0_isIn_18, psh_some, psh_none, bnd_r1, bnd_r0, b01_0, b01_1, lg_lt, lg_eq, lg_gt, lg_ge, lg_le, reduceIte, Bool.false_eq_true, and_true, true_and, and_false, false_and, not_true_eq_false, not_false_eq_true, eq_self]
  by_cases h1 : v < l
  · have : ¬ l ≤ v := fun q => i64_nlt.mpr q h1
    simp [h1, this, bI_f]
  · have h1' := i64_nlt.mp h1
    by_cases h2 : h < v
    · have : ¬ v ≤ h := fun q => i64_nlt.mpr q h2
      simp [h1, h1', h2, this, bI_f]
    · have h2' := i64_nlt.mp h2
      simp [h1, h1', h2, h2', bI_t]
theorem c_bit {d : Nat} {G : AH} {x : Int32} : cl d 12 [vi x] G = some (.inl (some (vl ((1 : Int64) <<< (x.toInt64 &&& 63)))), G) := by
  rw [en12]
  simp only [rX0_bit_0, rX0_bit_1, rX0_bit_2, rX0_bit_3, psh_some, psh_none, bnd_r1, bnd_r0, b01_0, b01_1, lg_lt, lg_eq, lg_gt, lg_ge, lg_le, reduceIte, Bool.false_eq_true, and_true, true_and, and_false, false_and, not_true_eq_false, not_false_eq_true, eq_self]
theorem c_xOf {d : Nat} {G : AH} {x : Int32} : cl d 8 [vi x] G = some (.inl (some (vi (irm x (nI 8)))), G) := by
  rw [en8]
  simp only [rX0_xOf_0, rX0_xOf_1, rX0_xOf_3, rX0_xOf_4, psh_some, psh_none, bnd_r1, bnd_r0, b01_0, b01_1, lg_lt, lg_eq, lg_gt, lg_ge, lg_le, reduceIte, Bool.false_eq_true, and_true, true_and, and_false, false_and, not_true_eq_false, not_false_eq_true, eq_self, show ¬ nI 8 = 0 by decide]
theorem c_yOf {d : Nat} {G : AH} {x : Int32} : cl d 9 [vi x] G = some (.inl (some (vi (x / nI 8))), G) := by
  rw [en9]
  simp only [rX0_yOf_0, rX0_yOf_1, rX0_yOf_3, rX0_yOf_4, psh_some, psh_none, bnd_r1, bnd_r0, b01_0, b01_1, lg_lt, lg_eq, lg_gt, lg_ge, lg_le, reduceIte, Bool.false_eq_true, and_true, true_and, and_false, false_and, not_true_eq_false, not_false_eq_true, eq_self, show ¬ nI 8 = 0 by decide]
theorem c_cellAt {d : Nat} {G : AH} {x y : Int32} : cl d 15 [vi x, vi y] G = some (.inl (some (vi (nI 8 * y + x))), G) := by
  rw [en15]
  simp only [rX0_cellAt_0, rX0_cellAt_2, rX0_cellAt_3, rX0_cellAt_4, rX0_cellAt_5, rX0_cellAt_6, psh_some, psh_none, bnd_r1, bnd_r0, b01_0, b01_1, lg_lt, lg_eq, lg_gt, lg_ge, lg_le, reduceIte, Bool.false_eq_true, and_true, true_and, and_false, false_and, not_true_eq_false, not_false_eq_true, eq_self]
theorem c_isOn {d : Nat} {G : AH} {x : Int64} {k : Int32} : cl d 16 [vl x, vi k] G = some (.inl (some (vi (bI (decide ((x >>> (k.toInt64 &&& 63)) &&& 1 = 1))))), G) := by
  rw [en16]
  simp only [rX0_isOn_0, rX0_isOn_1, rX0_isOn_2, rX0_isOn_3, rX0_isOn_4, rX0_isOn_5, rX0_isOn_6, rX0_isOn_7, rX0_isOn_10, rX0_isOn_11, rX0_isOn_14, rX0_isOn_15, psh_some, psh_none, bnd_r1, bnd_r0, b01_0, b01_1, lg_lt, lg_eq, lg_gt, lg_ge, lg_le, reduceIte, Bool.false_eq_true, and_true, true_and, and_false, false_and, not_true_eq_false, not_false_eq_true, eq_self]
  by_cases h : (x >>> (k.toInt64 &&& 63)) &&& 1 = 1
  · simp [h, bI_t]
  · simp [h, bI_f]
theorem c_far {d : Nat} {G : AH} {x y : Int32} (hd : 1 ≤ d) : cl d 19 [vi x, vi y] G = some (.inl (some (vi ((irm y (nI 8) - irm x (nI 8)) * (irm y (nI 8) - irm x (nI 8)) + (y / nI 8 - x / nI 8) * (y / nI 8 - x / nI 8)))), G) := by
  rw [en19]
  simp (disch := omega) only [rX0_far_0, rX0_far_1, rX0_far_4, rX0_far_5, rX0_far_8, rX0_far_9, rX0_far_10, rX0_far_11, rX0_far_14, rX0_far_15, rX0_far_18, rX0_far_19, rX0_far_20, rX0_far_21, rX0_far_22, rX0_far_23, rX0_far_24, rX0_far_25, rX0_far_26, rX0_far_27, psh_some, psh_none, bnd_r1, bnd_r0, b01_0, b01_1, lg_lt, lg_eq, lg_gt, lg_ge, lg_le, reduceIte, Bool.false_eq_true, and_true, true_and, and_false, false_and, not_true_eq_false, not_false_eq_true, eq_self, c_xOf, c_yOf, nl_i, nl_n]
