/-! the class: back, the lists -/
section
variable {d k n m0 : Nat} {G H K : AH} {s σ : SGT} {h : Nat → Nat → Int64} {w : Int32} {et em : Nat} {rt rm : Nat → Nat} {l f : List Nat} {c z : Nat}
theorem img_elsT {x pt pm et' em' bx tr on mp mv : Nat} {rt' rm' : Nat → Nat} (hS : SB σ) (hi : IMG σ x pt pm et' em' rt' rm' bx tr on mp mv G) : Els G et' (σ 0 2) := fun z hz => by
  obtain ⟨h1, hth⟩ := hi.2.2.2.1.2.2.2 z hz
  refine ⟨rt' z, h1, hth.2.1, ?_⟩
  have := (hS.2.2.1 z hz).1
  rw [hth.2.2.1]
  rcases (show σ 2 z = 0 ∨ σ 2 z = 1 ∨ σ 2 z = 2 by omega) with q | q | q <;> rw [q] <;> decide
theorem img_elsM {x pt pm et' em' bx tr on mp mv : Nat} {rt' rm' : Nat → Nat} (hS : SB σ) (hi : IMG σ x pt pm et' em' rt' rm' bx tr on mp mv G) : Els G em' (σ 0 3) := fun z hz => by
  obtain ⟨h1, hme, -⟩ := hi.2.2.2.2.1.2.2.2 z hz
  have h2 := hme.2.1
  refine ⟨rm' z, h1, by omega, ?_⟩
  have := (hS.2.2.2.2.2.1 z hz).1
  rw [hme.2.2.1]
  rcases (show σ 9 z = 0 ∨ σ 9 z = 1 ∨ σ 9 z = 2 ∨ σ 9 z = 3 ∨ σ 9 z = 4 by omega) with q | q | q | q | q <;> rw [q] <;> decide
/-- a list of the desk is emptied and filled from the image -/
theorem x_refill {p q0 e e' : Nat} {N : Nat} {hN0 : Nat} (b : BF et em c z G H) (hp : p = 5 ∨ p = 6) (he : e = et ∨ e = em) (he1 : e = 1 ∨ 184 ≤ e) (hl : LSt H p N e) (hl2 : LSt H q0 n e') (hok : Els H e' n) (hn : n ≤ 60) (hq : 184 ≤ q0) (he' : e' = 1 ∨ 184 ≤ e') (hd1 : e' = 1 ∨ e' ≠ e) (hrm : n ≤ hL H e) (hd : 6 ≤ d) : ∃ K e2 M v, cl d 334 [vr (some p)] H = some (.inl none, M) ∧ cl d 342 [vr (some p), vr (some q0)] M = some (.inl (some (vi v)), K) ∧ BF et em c z G M ∧ BF et em (c + 2) (z + 200) G K ∧ LSt K p n e2 ∧ (e2 = e ∨ hN H ≤ e2) ∧ hL H e ≤ hL K e2 ∧ (∀ i, i < n → hR K e2 i = hR H e' i) ∧ (∀ a i, a < hN H → a ≠ p → hI K a i = hI H a i) ∧ (∀ a i, a < hN H → a ≠ p → (a ≠ e ∨ e = 1) → hR K a i = hR H a i) ∧ hN H ≤ hN K ∧ (∀ a, a < hN H → hT K a = hT H a ∧ hL K a = hL H a) ∧ hT M = hT H := by
  obtain ⟨M, e1, l1, c1, c2, c3, c4, c5, c6, c7⟩ := c_clear (d := d) hl
  have hz1 := hl2.2.2.2.1
  have hz2 := hl2.2.2.2.2.2.2.2.2.2
  have hn' := hl.2.2.2.2.2.2.1
  have bM : BF et em c z G M := b.stp c1 c2 (fun a => by rw [c3, c4]; exact ⟨rfl, rfl⟩) (fun a i q1 q2 q3 q4 q5 => c7 a i (by omega)) (fun a i q1 q2 => c5 a i (fun y => q2 (by unfold BI; omega))) (fun a i _ _ => c6 a i)
  have hne : ∀ i, i < n → hR M e' i = hR H e' i := fun i hi => by
    rcases hd1 with y | y
    · subst y; omega
    · exact c7 e' i (Or.inl y)
  have l2 : LSt M q0 n e' := hl2.of (Nat.le_of_eq c1.symm) (fun a _ => by rw [c3, c4]; exact ⟨rfl, rfl⟩) (c5 _ _ (by omega)) (c7 _ _ (Or.inl (fun y => by
    have h16 := hl2.1
    have := hl.2.2.2.2.2.1
    rw [← y] at this
    omega))) (by have := hl2.2.2.2.2.2.2.1; omega)
  have ok2 : Els M e' n := fun i hi => by
    obtain ⟨r, r1, r2, r3⟩ := hok i hi
    exact ⟨r, (hne i hi).trans r1, by omega, by rw [c3]; exact r3⟩
  obtain ⟨K, e2, v, g1, a⟩ := c_addAll (d := d) l1 l2 hn ok2 (by omega) (by
    rcases hd1 with y | y
    · right; subst y; omega
    · exact Or.inl y) (by omega) (by
    by_cases y : e = 1
    · exact Or.inl y
    · right; rw [c4]; exact hrm) (by omega)
  have bK := bM.all a hp he
  obtain ⟨⟨a1, a2, a3⟩, a4, a5, a6, a7, a8, a9⟩ := a
  refine ⟨K, e2, M, v, e1, g1, bM, bK, a5, by omega, by rw [c4] at a7; exact a7, fun i hi => (a9 i hi).trans (hne i hi), fun x i h1 h2 => ((a4 x (by omega)).2.2.1 i h2).trans (c5 x i h2), fun x i h1 h2 h3 => ((a4 x (by omega)).2.2.2.2 i h2 h3).trans (c7 x i h3), by omega, fun x hx => ⟨(a4 x (by omega)).1.trans (by rw [c3]), (a4 x (by omega)).2.1.trans (by rw [c4])⟩, c3⟩
set_option maxHeartbeats 1000000 in
theorem x_backB {x pt pm et' em' bx tr on mp mv : Nat} {rt' rm' : Nat → Nat} (b0 : BF et em 0 0 G H) (hX : XS G) (h184 : 184 ≤ hN G) (q1 : et = 1 ∨ (184 ≤ et ∧ et ≠ em)) (q2 : em = 1 ∨ 184 ≤ em) (h1 : et = 1 ∨ hT G et = 50) (h2 : em = 1 ∨ hT G em = 50) (hB : SB σ) (hi : IMG σ x pt pm et' em' rt' rm' bx tr on mp mv G) (e1 : et' = 1 ∨ (et' ≠ et ∧ et' ≠ em)) (e2 : em' = 1 ∨ (em' ≠ et ∧ em' ≠ em)) (hLT : LSt G 5 n et) (hLM : LSt G 6 m0 em) (z1 : σ 0 2 ≤ hL G et) (z2 : σ 0 3 ≤ hL G em) (hN' : BN σ H) (y1 : hI H 5 140 = hI G 5 140 ∧ hR H 5 139 = hR G 5 139) (y2 : hI H 6 140 = hI G 6 140 ∧ hR H 6 139 = hR G 6 139) (hd : 7 ≤ d) {L3 : Option AV} : ∃ K f1 f2, At d 122 62 [some (vr (some 3)), some (vi (nI k)), some (vr (some x)), L3] [] H = At d 122 108 [some (vr (some 3)), some (vi (nI k)), some (vr (some x)), L3] [] K ∧ BF et em 4 400 G K ∧ BN σ K ∧ (LSt K 5 (σ 0 2) f1 ∧ (f1 = et ∨ hN G ≤ f1) ∧ hL G et ≤ hL K f1 ∧ ∀ t, t < σ 0 2 → hR K f1 t = some (rt' t)) ∧ (LSt K 6 (σ 0 3) f2 ∧ (f2 = em ∨ hN G ≤ f2) ∧ hL G em ≤ hL K f2 ∧ ∀ m, m < σ 0 3 → hR K f2 m = some (rm' m)) ∧ (f1 = 1 ∨ (184 ≤ f1 ∧ f1 ≠ f2)) := by
  have h0 := hB.1
  have hetl := hLT.2.2.2.2.2.2.2.1
  have heml := hLM.2.2.2.2.2.2.2.1
  have hTL := b0.2.2.1
  have iH := b0.img hB hi h1 h2 h184 e1 e2
  have hX0 := b0.xs hX h184 (by omega) q2
  have lT : LSt H 5 n et := hLT.of b0.1 hTL y1.1 y1.2 h184
  have lM : LSt H 6 m0 em := hLM.of b0.1 hTL y2.1 y2.2 h184
  obtain ⟨⟨x1, x2, x3, -⟩, -, ⟨x4, x5, -⟩, ⟨j1, j2, j3, j4⟩, ⟨j5, j6, j7, j8⟩, -⟩ := iH
  obtain ⟨K1, f1, M1, v1, c1, c2, bM1, b1, l1, g1, g2, g3, g4, g5, g6, g7, g8⟩ := x_refill (hN0 := 0) (d := d - 1) b0 (Or.inl rfl) (Or.inl rfl) (by omega) lT j2 (img_elsT hB (b0.img hB hi h1 h2 h184 e1 e2)) (by omega) j1 j3 (by omega) (by rw [(hTL et hetl).2]; exact z1) (by omega)
  have hXM1 := bM1.xs hX h184 (by omega) q2
  have hXK1 := b1.xs hX h184 (by omega) q2
  have iK1 := b1.img hB hi h1 h2 h184 e1 e2
  have hHn := b0.1
  have lM1 : LSt K1 6 m0 em := lM.of g6 g7 (g4 _ _ (by omega) (by decide)) (g5 _ _ (by omega) (by decide) (by omega)) (by omega)
  obtain ⟨⟨w1, w2, w3', -⟩, -, ⟨w4, w5, -⟩, ⟨k1, k2, k3, k4⟩, ⟨k5, k6, k7, k8⟩, -⟩ := iK1
  obtain ⟨K2, f2, M2, v2, d1, d2, bM2, b2, l2, u1, u2, u3, u4, u5, u6, u7, u8⟩ := x_refill (hN0 := 0) (d := d - 1) b1 (Or.inr rfl) (Or.inr rfl) q2 lM1 k6 (img_elsM hB (b1.img hB hi h1 h2 h184 e1 e2)) (by omega) k5 k7 (by omega) (by rw [(b1.2.2.1 em heml).2]; exact z2) (by omega)
  have hXM2 := bM2.xs hX h184 (by omega) q2
  have hf1 := l1.2.2.2.2.2.2.2.1
  have hK1n := b1.1
  have tM1 : hT M1 5 = 16 := by rw [g8]; exact lT.1
  have tM2 : hT M2 6 = 16 := by rw [u8]; exact lM1.1
  have xM1 : hT M1 x = 13 ∧ hR M1 x 163 = some pt := by
    have := bM1.img hB hi h1 h2 h184 e1 e2
    exact ⟨this.1.2.2.1, this.2.2.1.1⟩
  have xM2 : hT M2 x = 13 ∧ hR M2 x 164 = some pm := by
    have := bM2.img hB hi h1 h2 h184 e1 e2
    exact ⟨this.1.2.2.1, this.2.2.1.2.1⟩
  have hne1 : (f1 ≠ em ∨ em = 1) ∨ σ 0 2 = 0 := by
    rcases g1 with y | y
    · rcases q1 with w' | w'
      · right; rw [w'] at z1; have := hLT.2.2.2.2.2.2.2.2.2; omega
      · left; left; omega
    · left; left; omega
  refine ⟨K2, f1, f2, ?_, b2, ?_, ⟨?_, by omega, ?_, fun t ht => ?_⟩, ⟨l2, by omega, ?_, fun m hm => ?_⟩, ?_⟩
  · simp (disch := omega) only [rX0_back_62, rX0_back_63, rX0_back_66, rX0_back_71, rX0_back_72, rX0_back_75, rX0_back_76, rX0_back_79, rX0_back_84, rX0_back_85, rX0_back_86, rX0_back_89, rX0_back_94, rX0_back_95, rX0_back_98, rX0_back_99, rX0_back_102, rX0_back_107, psh_some, psh_none, bnd_r1, bnd_r0, b01_0, b01_1, lg_lt, lg_eq, lg_gt, lg_ge, lg_le, reduceIte, Bool.false_eq_true, and_true, true_and, and_false, false_and, not_true_eq_false, not_false_eq_true, eq_self, nI_add, nI_mul, nI_div, nI_irm, nI_subk, inb_ok, ix_ok, nI_lt_t, nI_lt_f, nI_le_t, nI_le_f, nI_eq_t, nI_eq_f, nI_z, ifb, ifbn, b01_bI, b01_n, Nat.reduceEqDiff, nl_l, nl_n, nl_i, nl_r, Bool.true_eq_false, reduceIte, if_true, if_false, ok0_0, ok0_1, ok0_2, ok0_3, ok0_4, ok0_5, ok0_6, ok0_7, ok0_8, ok0_9, ok0_10, ok0_11, ok0_12, ok0_13, ok0_14, ok0_15, ok0_16, ok0_17, ok0_18, ok0_19, ok0_20, ok0_21, ok0_22, ok0_23, ok0_24, ok0_25, ok0_26, ok0_27, ok0_28, ok0_29, ok0_30, ok0_31, ok0_32, ok0_33, ok0_34, ok0_35, ok0_36, ok0_37, ok0_38, ok0_39, ok0_40, ok0_41, ok0_42, ok0_43, ok0_44, ok0_45, ok0_46, ok0_47, ok0_48, ok0_49, ok0_50, ok0_51, ok0_52, ok0_53, ok0_54, ok1_141, ok2_55, ok2_56, ok2_57, ok2_58, ok2_59, ok2_60, ok2_61, ok2_62, ok2_63, ok2_64, ok2_65, ok2_66, ok2_67, ok2_68, ok2_69, ok2_70, ok2_71, ok2_72, ok2_73, ok2_74, ok2_75, ok2_76, ok2_77, ok2_78, ok2_79, ok2_80, ok2_81, ok2_82, ok2_83, ok2_84, ok2_85, ok2_86, ok2_87, ok2_88, ok2_89, ok2_90, ok2_91, ok2_92, ok2_93, ok2_94, ok2_95, ok2_96, ok2_97, ok2_98, ok2_99, ok2_100, ok2_101, ok2_102, ok2_103, ok2_104, ok2_105, ok2_106, ok2_107, ok2_108, ok2_109, ok2_110, ok2_111, ok2_112, ok2_113, ok2_114, ok2_115, ok2_116, ok2_117, ok2_118, ok2_119, ok2_120, ok2_121, ok2_122, ok2_123, ok2_124, ok2_125, ok2_126, ok2_127, ok2_128, ok2_129, ok2_130, ok2_131, ok2_132, ok2_133, ok2_134, ok2_135, ok2_136, ok2_137, ok3_171, ok3_172, ok3_173, ok3_174, ok3_175, ok3_176, ok4_171, ok4_172, ok4_173, ok4_174, ok4_175, ok4_176, ok4_177, ok4_178, ok5_171, ok5_172, ok5_173, ok5_174, ok5_175, ok5_176, ok5_177, ok5_178, ok5_179, ok7_142, ok7_143, ok7_144, ok7_145, ok7_146, ok7_147, ok7_148, ok7_149, ok7_152, ok7_153, ok7_154, ok8_142, ok8_143, ok8_144, ok8_145, ok8_146, ok8_147, ok8_148, ok8_149, ok8_152, ok8_153, ok8_154, ok8_155, ok9_142, ok9_143, ok9_144, ok9_145, ok9_146, ok9_147, ok9_148, ok9_149, ok9_152, ok9_153, ok9_154, ok9_155, ok9_180, ok10_142, ok10_143, ok10_144, ok10_145, ok10_146, ok10_147, ok10_148, ok10_149, ok10_150, ok10_151, ok11_142, ok11_143, ok11_144, ok11_145, ok11_146, ok11_147, ok11_148, ok11_149, ok11_152, ok11_153, ok11_154, ok11_155, ok11_156, ok11_157, ok13_158, ok13_159, ok13_160, ok13_161, ok13_162, ok13_163, ok13_164, ok13_165, ok13_166, ok13_167, ok13_168, ok13_169, ok13_170, ok16_138, ok16_139, ok16_140, ct_a, ct_a5, ct_b, ct_c, ct_d, ct_r50, ct_r51, ct_r52, ct_r53, ct_r54, xs_T, xsR_5, xsT_4, xsL_4, xsR_6, xsT_5, xsL_5, xsR_7, xsT_6, xsL_6, xsR_8, xsT_7, xsL_7, xsR_9, xsT_8, xsL_8, xsR_10, xsT_9, xsL_9, xsR_14, xsT_10, xsL_10, xsR_17, xsT_11, xsL_11, xsR_18, xsT_12, xsL_12, xsR_24, xsT_13, xsL_13, xsR_25, xsT_14, xsL_14, xsR_26, xsT_24, xsL_24, xsR_28, xsT_106, xsL_106, xsR_34, xsT_107, xsL_107, xsR_41, xsT_108, xsL_108, xsR_42, xsT_109, xsL_109, xsR_43, xsT_110, xsL_110, xsR_44, xsT_111, xsL_111, xsR_46, xsT_112, xsL_112, xsR_52, xsT_121, xsL_121, xsR_53, xsT_122, xsL_122, xsR_54, xsT_131, xsL_131, hX0, hXM1, hXK1, hXM2, lT.1, lM1.1, tM1, tM2, xM1, xM2, c1, c2, d1, d2]
  · obtain ⟨n1, n2, n3, n4⟩ := hN'
    exact ⟨((u4 3 _ (by omega) (by decide)).trans (g4 3 _ (by omega) (by decide))).trans n1, ((u4 3 _ (by omega) (by decide)).trans (g4 3 _ (by omega) (by decide))).trans n2, ((u4 3 _ (by omega) (by decide)).trans (g4 3 _ (by omega) (by decide))).trans n3, ((u4 3 _ (by omega) (by decide)).trans (g4 3 _ (by omega) (by decide))).trans n4⟩
  · exact l1.of u6 u7 (u4 _ _ (by omega) (by decide)) (u5 _ _ (by omega) (by decide) (by omega)) (by omega)
  · rw [(u7 f1 hf1).2, ← (hTL et hetl).2]; exact g2
  · rw [u5 f1 t hf1 (fun y => by have h16 := l1.2.2.2.2.2.1; rw [y, lM1.1] at h16; omega) (by omega), g3 t ht]; exact (j4 t ht).1
  · rw [← (b1.2.2.1 em heml).2]; exact u2
  · rw [u3 m hm]; exact (k8 m hm).1
  · clear c1 c2 d1 d2 x3 w3' tM1 tM2 xM1 xM2
    omega
end
