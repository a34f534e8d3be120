/-! the law (its head printed by wip/gen/gen_law.py) -/
section
variable {d L i : Nat} {xs : Nat → Int32} {G : AH}
theorem law_sw (hJ : JN L xs i G) (hi : 6 * i + 6 ≤ L) (hL : L ≤ 384) (hd : 40 ≤ d) : ∀ k, k < 64 → ∃ G2, At d 0 33 [some (vr (some 0)), some (vr (some 3)), some (vr (some 136)), some (vi (nI (6 * i)))] [vi (nI k)] G = At d 0 2116 [some (vr (some 0)), some (vr (some 3)), some (vr (some 136)), some (vi (nI (6 * i)))] [] G2 ∧ JN L xs (i + 1) G2
  | 0, _ => by rw [rL_law_33_k0]; exact law_0 hJ hi hL hd
  | 1, _ => by rw [rL_law_33_k1]; exact law_1 hJ hi hL hd
  | 2, _ => by rw [rL_law_33_k2]; exact law_2 hJ hi hL hd
  | 3, _ => by rw [rL_law_33_k3]; exact law_3 hJ hi hL hd
  | 4, _ => by rw [rL_law_33_k4]; exact law_4 hJ hi hL hd
  | 5, _ => by rw [rL_law_33_k5]; exact law_5 hJ hi hL hd
  | 6, _ => by rw [rL_law_33_k6]; exact law_6 hJ hi hL hd
  | 7, _ => by rw [rL_law_33_k7]; exact law_7 hJ hi hL hd
  | 8, _ => by rw [rL_law_33_k8]; exact law_8 hJ hi hL hd
  | 9, _ => by rw [rL_law_33_k9]; exact law_9 hJ hi hL hd
  | 10, _ => by rw [rL_law_33_k10]; exact law_10 hJ hi hL hd
  | 11, _ => by rw [rL_law_33_k11]; exact law_11 hJ hi hL hd
  | 12, _ => by rw [rL_law_33_k12]; exact law_12 hJ hi hL hd
  | 13, _ => by rw [rL_law_33_k13]; exact law_13 hJ hi hL hd
  | 14, _ => by rw [rL_law_33_k14]; exact law_14 hJ hi hL hd
  | 15, _ => by rw [rL_law_33_k15]; exact law_15 hJ hi hL hd
  | 16, _ => by rw [rL_law_33_k16]; exact law_16 hJ hi hL hd
  | 17, _ => by rw [rL_law_33_k17]; exact law_17 hJ hi hL hd
  | 18, _ => by rw [rL_law_33_k18]; exact law_18 hJ hi hL hd
  | 19, _ => by rw [rL_law_33_k19]; exact law_19 hJ hi hL hd
  | 20, _ => by rw [rL_law_33_k20]; exact law_20 hJ hi hL hd
  | 21, _ => by rw [rL_law_33_k21]; exact law_21 hJ hi hL hd
  | 22, _ => by rw [rL_law_33_k22]; exact law_22 hJ hi hL hd
  | 23, _ => by rw [rL_law_33_k23]; exact law_23 hJ hi hL hd
  | 24, _ => by rw [rL_law_33_k24]; exact law_24 hJ hi hL hd
  | 25, _ => by rw [rL_law_33_k25]; exact law_25 hJ hi hL hd
  | 26, _ => by rw [rL_law_33_k26]; exact law_26 hJ hi hL hd
  | 27, _ => by rw [rL_law_33_k27]; exact law_27 hJ hi hL hd
  | 28, _ => by rw [rL_law_33_k28]; exact law_28 hJ hi hL hd
  | 29, _ => by rw [rL_law_33_k29]; exact law_29 hJ hi hL hd
  | 30, _ => by rw [rL_law_33_k30]; exact law_30 hJ hi hL hd
  | 31, _ => by rw [rL_law_33_k31]; exact law_31 hJ hi hL hd
  | 32, _ => by rw [rL_law_33_k32]; exact law_32 hJ hi hL hd
  | 33, _ => by rw [rL_law_33_k33]; exact law_33 hJ hi hL hd
  | 34, _ => by rw [rL_law_33_k34]; exact law_34 hJ hi hL hd
  | 35, _ => by rw [rL_law_33_k35]; exact law_35 hJ hi hL hd
  | 36, _ => by rw [rL_law_33_k36]; exact law_36 hJ hi hL hd
  | 37, _ => by rw [rL_law_33_k37]; exact law_37 hJ hi hL hd
  | 38, _ => by rw [rL_law_33_k38]; exact law_38 hJ hi hL hd
  | 39, _ => by rw [rL_law_33_k39]; exact law_39 hJ hi hL hd
  | 40, _ => by rw [rL_law_33_k40]; exact law_40 hJ hi hL hd
  | 41, _ => by rw [rL_law_33_k41]; exact law_41 hJ hi hL hd
  | 42, _ => by rw [rL_law_33_k42]; exact law_42 hJ hi hL hd
  | 43, _ => by rw [rL_law_33_k43]; exact law_43 hJ hi hL hd
  | 44, _ => by rw [rL_law_33_k44]; exact law_44 hJ hi hL hd
  | 45, _ => by rw [rL_law_33_k45]; exact law_45 hJ hi hL hd
  | 46, _ => by rw [rL_law_33_k46]; exact law_46 hJ hi hL hd
  | 47, _ => by rw [rL_law_33_k47]; exact law_47 hJ hi hL hd
  | 48, _ => by rw [rL_law_33_k48]; exact law_48 hJ hi hL hd
  | 49, _ => by rw [rL_law_33_k49]; exact law_49 hJ hi hL hd
  | 50, _ => by rw [rL_law_33_k50]; exact law_50 hJ hi hL hd
  | 51, _ => by rw [rL_law_33_k51]; exact law_51 hJ hi hL hd
  | 52, _ => by rw [rL_law_33_k52]; exact law_52 hJ hi hL hd
  | k + 53, hk => by
    rw [rL_law_33_df (Or.inr (by rw [nI_toInt (by omega)]; omega))]
    obtain ⟨s, h, w, v, c, t, sc, r1, r2⟩ := hJ
    exact ⟨G, rfl, s, h, w, v, c, t, sc, by omega, by omega⟩
theorem and63 (x : Int32) : ∃ k, k < 64 ∧ x &&& nI 63 = nI k := by
  refine ⟨(x &&& nI 63).toBitVec.toNat, ?_, ?_⟩
  · rw [Int32.toBitVec_and, BitVec.toNat_and]
    have : (nI 63).toBitVec.toNat = 63 := by decide
    rw [this]
    have := @Nat.and_le_right x.toBitVec.toNat 63
    omega
  · apply Int32.toBitVec_inj.mp
    show _ = BitVec.ofNat 32 _
    rw [BitVec.ofNat_toNat, BitVec.setWidth_eq]
theorem law_step (hJ : JN L xs i G) (hi : 6 * i + 6 ≤ L) (hL : L ≤ 384) (hd : 40 ≤ d) : ∃ G2, At d 0 18 [some (vr (some 0)), some (vr (some 3)), some (vr (some 136)), some (vi (nI (6 * i)))] [] G = At d 0 18 [some (vr (some 0)), some (vr (some 3)), some (vr (some 136)), some (vi (nI (6 * (i + 1))))] [] G2 ∧ JN L xs (i + 1) G2 := by
  obtain ⟨k, hk, ek⟩ := and63 (xs (6 * i))
  obtain ⟨G2, e, j⟩ := law_sw hJ hi hL hd k hk
  refine ⟨G2, ?_, j⟩
  obtain ⟨s, h, w, v, c, t, ⟨p1, p2, p3⟩, r1, r2⟩ := hJ
  rw [rL_law_18]
  simp (disch := omega) only [rL_law_19, rL_law_20, rL_law_21, rL_law_23, rL_law_24, rL_law_27, rL_law_28, rL_law_29, rL_law_30, rL_law_32, psh_some, psh_none, bnd_r1, bnd_r0, b01_0, b01_1, lg_lt, lg_eq, lg_gt, lg_ge, lg_le, reduceIte, Bool.false_eq_true, and_true, true_and, and_false, false_and, not_true_eq_false, not_false_eq_true, eq_self, nI_add, nI_mul, nI_div, nI_irm, nI_subk, inb_ok, ix_ok, nI_lt_t, nI_lt_f, nI_le_t, nI_le_f, nI_eq_t, nI_eq_f, nI_z, ifb, ifbn, b01_bI, b01_n, Nat.reduceEqDiff, nl_l, nl_n, nl_i, nl_r, Bool.true_eq_false, reduceIte, if_true, if_false, ct_a5, p1, p2, p3, ek, show (40 ≤ 45) = True from eq_true (by decide), show (45 < 60) = True from eq_true (by decide)]
  rw [e]
  simp (disch := omega) only [rL_law_2116, rL_law_2119, psh_some, psh_none, bnd_r1, bnd_r0, b01_0, b01_1, lg_lt, lg_eq, lg_gt, lg_ge, lg_le, reduceIte, Bool.false_eq_true, and_true, true_and, and_false, false_and, not_true_eq_false, not_false_eq_true, eq_self, nI_add, nI_mul, nI_div, nI_irm, nI_subk, inb_ok, ix_ok, nI_lt_t, nI_lt_f, nI_le_t, nI_le_f, nI_eq_t, nI_eq_f, nI_z, ifb, ifbn, b01_bI, b01_n, Nat.reduceEqDiff, nl_l, nl_n, nl_i, nl_r, Bool.true_eq_false, reduceIte, if_true, if_false]
  rw [Nat.mul_add]
theorem law_end (hJ : JN L xs i G) (hi : L < 6 * i + 6) (h6 : 6 * i ≤ L) (hL : L ≤ 384) : At d 0 18 [some (vr (some 0)), some (vr (some 3)), some (vr (some 136)), some (vi (nI (6 * i)))] [] G = some (.inl (some (vi 1)), G) := by
  obtain ⟨s, h, w, v, c, t, ⟨p1, p2, p3⟩, r1, r2⟩ := hJ
  have hlt : (nI L - nI 6 < nI (6 * i)) = True := by
    by_cases q : 6 ≤ L
    · rw [nI_subk q]
      exact nI_lt_t (by omega) (by omega)
    · have : i = 0 := by omega
      subst this
      have hz : ∀ n, n < 6 → nI n - nI 6 < nI (6 * 0) := by decide
      exact eq_true (hz L (by omega))
  rw [rL_law_18]
  have e1 : (vi 1 : AV) = vi (nI 1) := rfl
  rw [rL_law_19, rL_law_20, p1, if_pos (by decide), rL_law_21, rL_law_23, p2, rL_law_24, if_pos (of_eq_true hlt), rL_law_2122, rL_law_2123, if_pos (by decide), e1]
theorem law_loop (hJ : JN L xs 0 G) (hL : L ≤ 384) (hd : 40 ≤ d) : ∃ G', At d 0 18 [some (vr (some 0)), some (vr (some 3)), some (vr (some 136)), some (vi (nI 0))] [] G = some (.inl (some (vi 1)), G') ∧ hC G' ≤ 603072 ∧ hS G' ≤ 7262314 := by
  have hN : L / 6 ≤ 64 := by omega
  refine lpQ (P := fun i M => At d 0 18 [some (vr (some 0)), some (vr (some 3)), some (vr (some 136)), some (vi (nI (6 * i)))] [] M) (Q := fun q => ∃ G', q = some (.inl (some (vi 1)), G') ∧ hC G' ≤ 603072 ∧ hS G' ≤ 7262314) (fun i M => JN L xs i M) (L / 6) ?_ ?_ (Nat.zero_le _) hJ
  · intro i M hi hj ih
    obtain ⟨G2, e, j⟩ := law_step hj (by omega) hL hd
    rw [e]
    exact ih G2 j
  · intro M hj
    rw [law_end hj (by omega) (by omega) hL]
    refine ⟨M, rfl, ?_⟩
    obtain ⟨s, h, w, v, c, t, sc, r1, r2⟩ := hj
    exact ⟨by omega, by omega⟩
theorem law_ok : LawOK := by
  intro L xs hL
  have hb : YB 4 1 55 (fun _ _ => 0) (G0 L xs) (mkx (G0 L xs) 0 0 1 55) := by
    have n0 : hN (G0 L xs) = 3 := rfl
    have x1 : ∀ q ∈ xsT, ¬ q.2.1 < 4 := by decide +kernel
    have x2 : ∀ q ∈ xsU, ¬ q.2.2.1 < 4 := by decide +kernel
    refine ⟨rfl, rfl, fun a ha => ⟨?_, ?_, fun i => ?_, fun i => ?_, fun i => ?_⟩, fun q hq hlt => absurd hlt (x1 q hq), fun q hq hlt => absurd hlt (x2 q hq), fun a i g1 g2 _ => ?_, fun _ _ _ => rfl, fun i => rfl, fun a i g1 g2 => by omega, fun a g1 g2 => by omega, by omega, ⟨Nat.le_add_right _ _, Nat.le_refl _, Nat.le_add_right _ _, Nat.le_refl _⟩⟩
    · rw [hT_mkx, if_neg (by omega)]
    · rw [hL_mkx, if_neg (by omega)]
    · rw [hI_mkx, if_neg (by omega)]
    · rw [hJ_mkx, if_neg (by omega)]
    · rw [hR_mkx, if_neg (by omega)]
    · rw [hI_mkx, if_pos (by omega)]
  have g0 : (hT (G0 L xs) 0 = 45 ∧ hL (G0 L xs) 0 = L ∧ ∀ i, hI (G0 L xs) 0 i = xs i) ∧ (hT (G0 L xs) 1 = 55 ∧ hL (G0 L xs) 1 = 0) ∧ hC (G0 L xs) = 0 ∧ hS (G0 L xs) = 0 ∧ hN (G0 L xs) = 3 := ⟨⟨rfl, rfl, fun i => rfl⟩, ⟨rfl, rfl⟩, rfl, rfl, rfl⟩
  rw [en0, rL_law_0]
  generalize G0 L xs = G at hb g0 ⊢
  obtain ⟨g1, g2, g3, g4, g5⟩ := g0
  rw [g5]
  simp (disch := omega) only [rL_law_3, psh_some, psh_none, bnd_r1, bnd_r0, b01_0, b01_1, lg_lt, lg_eq, lg_gt, lg_ge, lg_le, reduceIte, Bool.false_eq_true, and_true, true_and, and_false, false_and, not_true_eq_false, not_false_eq_true, eq_self, nI_add, nI_mul, nI_div, nI_irm, nI_subk, inb_ok, ix_ok, nI_lt_t, nI_lt_f, nI_le_t, nI_le_f, nI_eq_t, nI_eq_f, nI_z, ifb, ifbn, b01_bI, b01_n, Nat.reduceEqDiff, nl_l, nl_n, nl_i, nl_r, Bool.true_eq_false, reduceIte, if_true, if_false]
  obtain ⟨K, V, e, b, w1, w2, w3, w4, w5⟩ := x_init (d := 1000 - 1) hb (by decide)
  rw [rL_law_4 (by decide), e]
  simp (disch := omega) only [rL_law_7, psh_some, psh_none, bnd_r1, bnd_r0, b01_0, b01_1, lg_lt, lg_eq, lg_gt, lg_ge, lg_le, reduceIte, Bool.false_eq_true, and_true, true_and, and_false, false_and, not_true_eq_false, not_false_eq_true, eq_self, nI_add, nI_mul, nI_div, nI_irm, nI_subk, inb_ok, ix_ok, nI_lt_t, nI_lt_f, nI_le_t, nI_le_f, nI_eq_t, nI_eq_f, nI_z, ifb, ifbn, b01_bI, b01_n, Nat.reduceEqDiff, nl_l, nl_n, nl_i, nl_r, Bool.true_eq_false, reduceIte, if_true, if_false]
  clear e hb
  rw [rL_law_8]
  have b1 := b.1
  have hnb : NB 0 1 83 K (mkx K 2 0 1 83) := by
    have r2 : ∀ a, hT (mkx K 2 0 1 83) a = if a = hN K then 2 else hT K a := fun a => rfl
    have r3 : ∀ a, hL (mkx K 2 0 1 83) a = if a = hN K then 0 else hL K a := fun a => rfl
    have r4 : ∀ a i, hI (mkx K 2 0 1 83) a i = if a = hN K then 0 else hI K a i := fun a i => rfl
    have r5 : ∀ a i, hJ (mkx K 2 0 1 83) a i = if a = hN K then 0 else hJ K a i := fun a i => rfl
    have r6 : ∀ a i, hR (mkx K 2 0 1 83) a i = if a = hN K then none else hR K a i := fun a i => rfl
    have r7 : hN (mkx K 2 0 1 83) = hN K + 1 := rfl
    have r8 : Gb 1 83 K (mkx K 2 0 1 83) := ⟨Nat.le_add_right _ _, Nat.le_refl _, Nat.le_add_right _ _, Nat.le_refl _⟩
    generalize mkx K 2 0 1 83 = M at r2 r3 r4 r5 r6 r7 r8 ⊢
    refine ⟨by omega, by rw [r2, if_pos (by omega)], fun a ha => ⟨by rw [r2, if_neg (by omega)], by rw [r3, if_neg (by omega)], fun i => by rw [r4, if_neg (by omega)], fun i => by rw [r5, if_neg (by omega)], fun i => by rw [r6, if_neg (by omega)]⟩, fun q hq => absurd hq List.not_mem_nil, fun a i h1 h2 => by rw [r4, r5, if_pos (by omega), if_pos (by omega)]; exact ⟨rfl, rfl⟩, r8⟩
  rw [b1]
  simp (disch := omega) only [rL_law_11, psh_some, psh_none, bnd_r1, bnd_r0, b01_0, b01_1, lg_lt, lg_eq, lg_gt, lg_ge, lg_le, reduceIte, Bool.false_eq_true, and_true, true_and, and_false, false_and, not_true_eq_false, not_false_eq_true, eq_self, nI_add, nI_mul, nI_div, nI_irm, nI_subk, inb_ok, ix_ok, nI_lt_t, nI_lt_f, nI_le_t, nI_le_f, nI_eq_t, nI_eq_f, nI_z, ifb, ifbn, b01_bI, b01_n, Nat.reduceEqDiff, nl_l, nl_n, nl_i, nl_r, Bool.true_eq_false, reduceIte, if_true, if_false]
  obtain ⟨K2, e2, hTI, hn, hgb, hfr⟩ := m_init (d := 1000 - 1) hnb (by decide)
  rw [rL_law_12 (by decide), e2]
  simp (disch := omega) only [rL_law_15, rL_law_16, rL_law_17, psh_some, psh_none, bnd_r1, bnd_r0, b01_0, b01_1, lg_lt, lg_eq, lg_gt, lg_ge, lg_le, reduceIte, Bool.false_eq_true, and_true, true_and, and_false, false_and, not_true_eq_false, not_false_eq_true, eq_self, nI_add, nI_mul, nI_div, nI_irm, nI_subk, inb_ok, ix_ok, nI_lt_t, nI_lt_f, nI_le_t, nI_le_f, nI_eq_t, nI_eq_f, nI_z, ifb, ifbn, b01_bI, b01_n, Nat.reduceEqDiff, nl_l, nl_n, nl_i, nl_r, Bool.true_eq_false, reduceIte, if_true, if_false]
  have hci := ci_start b w1 w2 w3 w4 w5 g2 hfr hn hTI.1
  have bg := b.2.2.2.2.2.2.2.2.2.2.2
  have b3 := b.2.2.1
  refine law_loop (d := 1000) (xs := xs) ⟨s0, h0', 0, iv_s0, hci, hTI, ?_, ?_, ?_⟩ hL (by decide)
  · obtain ⟨p1, p2, p3, -, -⟩ := hfr 0 (by decide)
    obtain ⟨q1, q2, q3, -, -⟩ := b3 0 (by decide)
    exact ⟨(p1.trans q1).trans g1.1, (p2.trans q2).trans g1.2.1, fun i => ((p3 i).trans (q3 i)).trans (g1.2.2 i)⟩
  · have z1 := bg.2.1
    have z2 := hgb.2.1
    omega
  · have z1 := bg.2.2.2
    have z2 := hgb.2.2.2
    omega
end
/-! the whole -/
theorem i_vc : Claimed_1_1 ∧ Claimed_1_2 := claim_of law_ok
