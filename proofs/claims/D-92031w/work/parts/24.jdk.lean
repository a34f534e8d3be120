/-! contracts: the JDK's own small methods -/
theorem tb3_0 {c : Nat} : tb3 (nI 0) c = false := by
  have : (nI 0).toBitVec = 0#32 := rfl
  unfold tb3
  rw [this]
  simp
theorem low3n {x : Int32} {c : Nat} (hc : c < 32) (h1 : tb3 x c = true) (h0 : ∀ j, j < c → tb3 x j = false) : (x ^^^ (-1)) &&& (x - nI 1) = nI (2 ^ c - 1) := low3 hc h1 h0
theorem lt32 {c : Nat} (h : c < 32) : c = 0 ∨ c = 1 ∨ c = 2 ∨ c = 3 ∨ c = 4 ∨ c = 5 ∨ c = 6 ∨ c = 7 ∨ c = 8 ∨ c = 9 ∨ c = 10 ∨ c = 11 ∨ c = 12 ∨ c = 13 ∨ c = 14 ∨ c = 15 ∨ c = 16 ∨ c = 17 ∨ c = 18 ∨ c = 19 ∨ c = 20 ∨ c = 21 ∨ c = 22 ∨ c = 23 ∨ c = 24 ∨ c = 25 ∨ c = 26 ∨ c = 27 ∨ c = 28 ∨ c = 29 ∨ c = 30 ∨ c = 31 := by omega
section
variable {d : Nat} {G : AH}
theorem c_ntzI {x : Int32} {c : Nat} (hc : c < 32) (h1 : tb3 x c = true) (h0 : ∀ j, j < c → tb3 x j = false) : cl d 351 [vi x] G = some (.inl (some (vi (nI c))), G) := by
  rw [en351]
  simp only [rJ7_numberOfTrailingZeros_0, rJ7_numberOfTrailingZeros_1, rJ7_numberOfTrailingZeros_2, rJ7_numberOfTrailingZeros_3, rJ7_numberOfTrailingZeros_4, rJ7_numberOfTrailingZeros_5, rJ7_numberOfTrailingZeros_6, rJ7_numberOfTrailingZeros_7, rJ7_numberOfTrailingZeros_8, rJ7_numberOfTrailingZeros_9, rJ7_numberOfTrailingZeros_12, rJ7_numberOfTrailingZeros_13, rJ7_numberOfTrailingZeros_15, rJ7_numberOfTrailingZeros_16, rJ7_numberOfTrailingZeros_17, rJ7_numberOfTrailingZeros_18, rJ7_numberOfTrailingZeros_19, rJ7_numberOfTrailingZeros_20, rJ7_numberOfTrailingZeros_23, rJ7_numberOfTrailingZeros_26, rJ7_numberOfTrailingZeros_29, rJ7_numberOfTrailingZeros_30, rJ7_numberOfTrailingZeros_32, rJ7_numberOfTrailingZeros_33, rJ7_numberOfTrailingZeros_34, rJ7_numberOfTrailingZeros_35, rJ7_numberOfTrailingZeros_38, rJ7_numberOfTrailingZeros_41, rJ7_numberOfTrailingZeros_44, rJ7_numberOfTrailingZeros_45, rJ7_numberOfTrailingZeros_47, rJ7_numberOfTrailingZeros_48, rJ7_numberOfTrailingZeros_49, rJ7_numberOfTrailingZeros_50, rJ7_numberOfTrailingZeros_52, rJ7_numberOfTrailingZeros_55, rJ7_numberOfTrailingZeros_58, rJ7_numberOfTrailingZeros_59, rJ7_numberOfTrailingZeros_60, rJ7_numberOfTrailingZeros_61, rJ7_numberOfTrailingZeros_62, rJ7_numberOfTrailingZeros_63, rJ7_numberOfTrailingZeros_64, rJ7_numberOfTrailingZeros_67, rJ7_numberOfTrailingZeros_70, rJ7_numberOfTrailingZeros_71, rJ7_numberOfTrailingZeros_72, rJ7_numberOfTrailingZeros_73, rJ7_numberOfTrailingZeros_74, rJ7_numberOfTrailingZeros_75, rJ7_numberOfTrailingZeros_76, rJ7_numberOfTrailingZeros_77, rJ7_numberOfTrailingZeros_78, rJ7_numberOfTrailingZeros_79, psh_some, psh_none, bnd_r1, bnd_r0, b01_0, b01_1, lg_lt, lg_eq, lg_gt, lg_ge, lg_le, reduceIte, Bool.false_eq_true, and_true, true_and, and_false, false_and, not_true_eq_false, not_false_eq_true, eq_self, low3n hc h1 h0, nl_i, nl_n]
  rcases lt32 hc with rfl | rfl | rfl | rfl | rfl | rfl | rfl | rfl | rfl | rfl | rfl | rfl | rfl | rfl | rfl | rfl | rfl | rfl | rfl | rfl | rfl | rfl | rfl | rfl | rfl | rfl | rfl | rfl | rfl | rfl | rfl | rfl <;> rfl
theorem c_ntz {x : Int64} {c : Nat} (h : lowB x c) (hd : 1 ≤ d) : cl d 349 [vl x] G = some (.inl (some (vi (nI c))), G) := by
  obtain ⟨hc, h1, h0⟩ := h
  rw [en349]
  by_cases q : c < 32
  · have hn : ¬ x.toInt32 = nI 0 := fun e => by
      have := tb3_of (x := x) q
      rw [e, h1, tb3_0] at this
      cases this
    have hk := c_ntzI (d := d - 1) (G := G) (x := x.toInt32) q (by rw [tb3_of q]; exact h1) (fun j hj => by rw [tb3_of (by omega)]; exact h0 j hj)
    simp (disch := omega) only [rJ6_numberOfTrailingZeros_0, rJ6_numberOfTrailingZeros_1, rJ6_numberOfTrailingZeros_2, rJ6_numberOfTrailingZeros_3, rJ6_numberOfTrailingZeros_4, rJ6_numberOfTrailingZeros_7, rJ6_numberOfTrailingZeros_9, rJ6_numberOfTrailingZeros_10, rJ6_numberOfTrailingZeros_12, rJ6_numberOfTrailingZeros_13, rJ6_numberOfTrailingZeros_14, rJ6_numberOfTrailingZeros_17, rJ6_numberOfTrailingZeros_18, rJ6_numberOfTrailingZeros_21, rJ6_numberOfTrailingZeros_22, rJ6_numberOfTrailingZeros_25, psh_some, psh_none, bnd_r1, bnd_r0, b01_0, b01_1, lg_lt, lg_eq, lg_gt, lg_ge, lg_le, reduceIte, Bool.false_eq_true, and_true, true_and, and_false, false_and, not_true_eq_false, not_false_eq_true, eq_self, hn, hk, nl_l, nl_n]
  · have hz : x.toInt32 = nI 0 := tb3_ext fun j hj => by rw [tb3_of hj, tb3_0]; exact h0 j (by omega)
    have hk := c_ntzI (d := d - 1) (G := G) (x := (x.toUInt64 >>> ((nI 32).toInt64.toUInt64 &&& Int64.toUInt64 63)).toInt64.toInt32) (c := c - 32) (by omega) (by rw [tb3_hi (by omega), show 32 + (c - 32) = c by omega]; exact h1) (fun j hj => by rw [tb3_hi (by omega)]; exact h0 _ (by omega))
    simp (disch := omega) only [rJ6_numberOfTrailingZeros_0, rJ6_numberOfTrailingZeros_1, rJ6_numberOfTrailingZeros_2, rJ6_numberOfTrailingZeros_3, rJ6_numberOfTrailingZeros_4, rJ6_numberOfTrailingZeros_7, rJ6_numberOfTrailingZeros_9, rJ6_numberOfTrailingZeros_10, rJ6_numberOfTrailingZeros_12, rJ6_numberOfTrailingZeros_13, rJ6_numberOfTrailingZeros_14, rJ6_numberOfTrailingZeros_17, rJ6_numberOfTrailingZeros_18, rJ6_numberOfTrailingZeros_21, rJ6_numberOfTrailingZeros_22, rJ6_numberOfTrailingZeros_25, psh_some, psh_none, bnd_r1, bnd_r0, b01_0, b01_1, lg_lt, lg_eq, lg_gt, lg_ge, lg_le, reduceIte, Bool.false_eq_true, and_true, true_and, and_false, false_and, not_true_eq_false, not_false_eq_true, eq_self, hz, hk, nl_l, nl_n, nI_add]
    rw [show 32 + (c - 32) = c by omega]
theorem c_bc {x : Int64} : cl d 350 [vl x] G = some (.inl (some (vi (nI (ct (tb x) 64)))), G) := by
  rw [en350]
  simp only [rJ6_bitCount_0, rJ6_bitCount_1, rJ6_bitCount_2, rJ6_bitCount_3, rJ6_bitCount_4, rJ6_bitCount_7, rJ6_bitCount_8, rJ6_bitCount_9, rJ6_bitCount_10, rJ6_bitCount_11, rJ6_bitCount_14, rJ6_bitCount_15, rJ6_bitCount_16, rJ6_bitCount_17, rJ6_bitCount_18, rJ6_bitCount_21, rJ6_bitCount_22, rJ6_bitCount_23, rJ6_bitCount_24, rJ6_bitCount_25, rJ6_bitCount_26, rJ6_bitCount_27, rJ6_bitCount_28, rJ6_bitCount_29, rJ6_bitCount_32, rJ6_bitCount_33, rJ6_bitCount_34, rJ6_bitCount_35, rJ6_bitCount_36, rJ6_bitCount_38, rJ6_bitCount_39, rJ6_bitCount_40, rJ6_bitCount_41, rJ6_bitCount_42, rJ6_bitCount_43, rJ6_bitCount_45, rJ6_bitCount_46, rJ6_bitCount_47, rJ6_bitCount_48, rJ6_bitCount_49, rJ6_bitCount_50, rJ6_bitCount_52, rJ6_bitCount_53, rJ6_bitCount_54, rJ6_bitCount_55, rJ6_bitCount_56, rJ6_bitCount_57, rJ6_bitCount_59, rJ6_bitCount_60, psh_some, psh_none, bnd_r1, bnd_r0, b01_0, b01_1, lg_lt, lg_eq, lg_gt, lg_ge, lg_le, reduceIte, Bool.false_eq_true, and_true, true_and, and_false, false_and, not_true_eq_false, not_false_eq_true, eq_self, nl_l, nl_n]
  rw [← bcL_eq]
  rfl
theorem c_bcI {x : Int32} : cl d 352 [vi x] G = some (.inl (some (vi (nI (ct (tb3 x) 32)))), G) := by
  rw [en352]
  simp only [rJ7_bitCount_0, rJ7_bitCount_1, rJ7_bitCount_2, rJ7_bitCount_3, rJ7_bitCount_4, rJ7_bitCount_7, rJ7_bitCount_8, rJ7_bitCount_9, rJ7_bitCount_10, rJ7_bitCount_11, rJ7_bitCount_14, rJ7_bitCount_15, rJ7_bitCount_16, rJ7_bitCount_17, rJ7_bitCount_18, rJ7_bitCount_21, rJ7_bitCount_22, rJ7_bitCount_23, rJ7_bitCount_24, rJ7_bitCount_25, rJ7_bitCount_26, rJ7_bitCount_27, rJ7_bitCount_28, rJ7_bitCount_29, rJ7_bitCount_32, rJ7_bitCount_33, rJ7_bitCount_34, rJ7_bitCount_35, rJ7_bitCount_36, rJ7_bitCount_38, rJ7_bitCount_39, rJ7_bitCount_40, rJ7_bitCount_41, rJ7_bitCount_42, rJ7_bitCount_43, rJ7_bitCount_45, rJ7_bitCount_46, rJ7_bitCount_47, rJ7_bitCount_48, rJ7_bitCount_49, rJ7_bitCount_51, rJ7_bitCount_52, psh_some, psh_none, bnd_r1, bnd_r0, b01_0, b01_1, lg_lt, lg_eq, lg_gt, lg_ge, lg_le, reduceIte, Bool.false_eq_true, and_true, true_and, and_false, false_and, not_true_eq_false, not_false_eq_true, eq_self, nl_i, nl_n]
  rw [← bcI_eq]
  rfl
theorem c_max {a b : Nat} (ha : a < 2147483648) (hb : b < 2147483648) : cl d 354 [vi (nI a), vi (nI b)] G = some (.inl (some (vi (nI (max a b)))), G) := by
  rw [en354]
  by_cases h : b ≤ a
  · simp (disch := omega) only [rJ17_max_0, rJ17_max_1, rJ17_max_2, rJ17_max_5, rJ17_max_6, rJ17_max_9, rJ17_max_10, psh_some, psh_none, bnd_r1, bnd_r0, b01_0, b01_1, lg_lt, lg_eq, lg_gt, lg_ge, lg_le, reduceIte, Bool.false_eq_true, and_true, true_and, and_false, false_and, not_true_eq_false, not_false_eq_true, eq_self, nI_add, nI_mul, nI_div, nI_irm, nI_subk, inb_ok, ix_ok, nI_lt_t, nI_lt_f, nI_le_t, nI_le_f, nI_eq_t, nI_eq_f, nI_z, ifb, ifbn, b01_bI, b01_n, Nat.reduceEqDiff, nl_l, nl_n, nl_i, nl_r, Bool.true_eq_false, reduceIte, if_true, if_false]
    rw [show max a b = a by omega]
  · simp (disch := omega) only [rJ17_max_0, rJ17_max_1, rJ17_max_2, rJ17_max_5, rJ17_max_6, rJ17_max_9, rJ17_max_10, psh_some, psh_none, bnd_r1, bnd_r0, b01_0, b01_1, lg_lt, lg_eq, lg_gt, lg_ge, lg_le, reduceIte, Bool.false_eq_true, and_true, true_and, and_false, false_and, not_true_eq_false, not_false_eq_true, eq_self, nI_add, nI_mul, nI_div, nI_irm, nI_subk, inb_ok, ix_ok, nI_lt_t, nI_lt_f, nI_le_t, nI_le_f, nI_eq_t, nI_eq_f, nI_z, ifb, ifbn, b01_bI, b01_n, Nat.reduceEqDiff, nl_l, nl_n, nl_i, nl_r, Bool.true_eq_false, reduceIte, if_true, if_false]
    rw [show max a b = b by omega]
theorem c_abs {x : Int32} : cl d 356 [vi x] G = some (.inl (some (vi (if x < nI 0 then -x else x))), G) := by
  rw [en356]
  by_cases h : x < nI 0
  · have h2 : ¬ nI 0 ≤ x := fun q => i32_nlt.mpr q h
    simp only [rJ17_abs_0, rJ17_abs_1, rJ17_abs_4, rJ17_abs_5, rJ17_abs_6, rJ17_abs_9, rJ17_abs_10, psh_some, psh_none, bnd_r1, bnd_r0, b01_0, b01_1, lg_lt, lg_eq, lg_gt, lg_ge, lg_le, reduceIte, Bool.false_eq_true, and_true, true_and, and_false, false_and, not_true_eq_false, not_false_eq_true, eq_self, h, h2]
  · have h2 : nI 0 ≤ x := i32_nlt.mp h
    simp only [rJ17_abs_0, rJ17_abs_1, rJ17_abs_4, rJ17_abs_5, rJ17_abs_6, rJ17_abs_9, rJ17_abs_10, psh_some, psh_none, bnd_r1, bnd_r0, b01_0, b01_1, lg_lt, lg_eq, lg_gt, lg_ge, lg_le, reduceIte, Bool.false_eq_true, and_true, true_and, and_false, false_and, not_true_eq_false, not_false_eq_true, eq_self, h, h2]
end
