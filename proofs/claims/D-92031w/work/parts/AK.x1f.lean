/-! the class: back, joined -/
section
variable {d k n m0 : Nat} {G H K : AH} {s σ σ' : SGT} {h : Nat → Nat → Int64} {w : Int32} {et em : Nat} {rt rm : Nat → Nat} {l f : List Nat} {c z : Nat}
set_option maxHeartbeats 2000000 in
theorem xo_back {x : Int32} (hSI : SI s) (hd : 20 ≤ d) : XO d 122 [vi x] s h w (vi (aBack s x)) (sBack s x) h w := fun G hIn => by
  have hIn2 := hIn
  obtain ⟨et, em, rt, rm, hD, hC, hX⟩ := hIn
  have hS := hSI.1
  have h184 := hD.2.1
  have hXs := hD.1
  have him := x_isImage (d := d - 1) (G := G) (x := x) (by omega)
  rw [en122]
  unfold aBack sBack okB
  rcases inR_of (x := x) (n := 2) (by omega) with ⟨k, hk, rfl, hx⟩ | hx
  case inr =>
    rw [hx] at him
    rw [hx, if_neg (by decide), if_neg (by simp)]
    refine ⟨G, ?_, Fx.refl G, hIn2⟩
    simp (disch := omega) only [rX0_back_0, rX0_back_1, rX0_back_4, rX0_back_7, rX0_back_8, psh_some, psh_none, bnd_r1, bnd_r0, b01_0, b01_1, lg_lt, lg_eq, lg_gt, lg_ge, lg_le, reduceIte, Bool.false_eq_true, and_true, true_and, and_false, false_and, not_true_eq_false, not_false_eq_true, eq_self, nI_add, nI_mul, nI_div, nI_irm, nI_subk, inb_ok, ix_ok, nI_lt_t, nI_lt_f, nI_le_t, nI_le_f, nI_eq_t, nI_eq_f, nI_z, ifb, ifbn, b01_bI, b01_n, Nat.reduceEqDiff, nl_l, nl_n, nl_i, nl_r, Bool.true_eq_false, reduceIte, if_true, if_false, him]
  rw [hx] at him
  rw [hx, if_pos rfl, ix_ok (by omega), Bool.true_and]
  have h25 := (hSI.2.1 k hk).1
  have hims := hX.2.2.2.2.1 k hk
  obtain ⟨-, -, -, -, m1, m2⟩ := xs_mp hXs
  by_cases q : s 25 k = 1
  case neg =>
    have q0 : s 25 k = 0 := by omega
    have hnone := hims.1 q0
    rw [if_neg q, if_neg (by rw [decide_eq_false q]; decide)]
    refine ⟨G, ?_, Fx.refl G, hIn2⟩
    simp (disch := omega) only [rX0_back_0, rX0_back_1, rX0_back_4, rX0_back_7, rX0_back_8, rX0_back_9, rX0_back_10, rX0_back_13, rX0_back_14, rX0_back_15, rX0_back_16, rX0_back_17, rX0_back_27, rX0_back_29, psh_some, psh_none, bnd_r1, bnd_r0, b01_0, b01_1, lg_lt, lg_eq, lg_gt, lg_ge, lg_le, reduceIte, Bool.false_eq_true, and_true, true_and, and_false, false_and, not_true_eq_false, not_false_eq_true, eq_self, nI_add, nI_mul, nI_div, nI_irm, nI_subk, inb_ok, ix_ok, nI_lt_t, nI_lt_f, nI_le_t, nI_le_f, nI_eq_t, nI_eq_f, nI_z, ifb, ifbn, b01_bI, b01_n, Nat.reduceEqDiff, nl_l, nl_n, nl_i, nl_r, Bool.true_eq_false, reduceIte, if_true, if_false, ok0_0, ok0_1, ok0_2, ok0_3, ok0_4, ok0_5, ok0_6, ok0_7, ok0_8, ok0_9, ok0_10, ok0_11, ok0_12, ok0_13, ok0_14, ok0_15, ok0_16, ok0_17, ok0_18, ok0_19, ok0_20, ok0_21, ok0_22, ok0_23, ok0_24, ok0_25, ok0_26, ok0_27, ok0_28, ok0_29, ok0_30, ok0_31, ok0_32, ok0_33, ok0_34, ok0_35, ok0_36, ok0_37, ok0_38, ok0_39, ok0_40, ok0_41, ok0_42, ok0_43, ok0_44, ok0_45, ok0_46, ok0_47, ok0_48, ok0_49, ok0_50, ok0_51, ok0_52, ok0_53, ok0_54, ok1_141, ok2_55, ok2_56, ok2_57, ok2_58, ok2_59, ok2_60, ok2_61, ok2_62, ok2_63, ok2_64, ok2_65, ok2_66, ok2_67, ok2_68, ok2_69, ok2_70, ok2_71, ok2_72, ok2_73, ok2_74, ok2_75, ok2_76, ok2_77, ok2_78, ok2_79, ok2_80, ok2_81, ok2_82, ok2_83, ok2_84, ok2_85, ok2_86, ok2_87, ok2_88, ok2_89, ok2_90, ok2_91, ok2_92, ok2_93, ok2_94, ok2_95, ok2_96, ok2_97, ok2_98, ok2_99, ok2_100, ok2_101, ok2_102, ok2_103, ok2_104, ok2_105, ok2_106, ok2_107, ok2_108, ok2_109, ok2_110, ok2_111, ok2_112, ok2_113, ok2_114, ok2_115, ok2_116, ok2_117, ok2_118, ok2_119, ok2_120, ok2_121, ok2_122, ok2_123, ok2_124, ok2_125, ok2_126, ok2_127, ok2_128, ok2_129, ok2_130, ok2_131, ok2_132, ok2_133, ok2_134, ok2_135, ok2_136, ok2_137, ok3_171, ok3_172, ok3_173, ok3_174, ok3_175, ok3_176, ok4_171, ok4_172, ok4_173, ok4_174, ok4_175, ok4_176, ok4_177, ok4_178, ok5_171, ok5_172, ok5_173, ok5_174, ok5_175, ok5_176, ok5_177, ok5_178, ok5_179, ok7_142, ok7_143, ok7_144, ok7_145, ok7_146, ok7_147, ok7_148, ok7_149, ok7_152, ok7_153, ok7_154, ok8_142, ok8_143, ok8_144, ok8_145, ok8_146, ok8_147, ok8_148, ok8_149, ok8_152, ok8_153, ok8_154, ok8_155, ok9_142, ok9_143, ok9_144, ok9_145, ok9_146, ok9_147, ok9_148, ok9_149, ok9_152, ok9_153, ok9_154, ok9_155, ok9_180, ok10_142, ok10_143, ok10_144, ok10_145, ok10_146, ok10_147, ok10_148, ok10_149, ok10_150, ok10_151, ok11_142, ok11_143, ok11_144, ok11_145, ok11_146, ok11_147, ok11_148, ok11_149, ok11_152, ok11_153, ok11_154, ok11_155, ok11_156, ok11_157, ok13_158, ok13_159, ok13_160, ok13_161, ok13_162, ok13_163, ok13_164, ok13_165, ok13_166, ok13_167, ok13_168, ok13_169, ok13_170, ok16_138, ok16_139, ok16_140, ct_a, ct_a5, ct_b, ct_c, ct_d, ct_r50, ct_r51, ct_r52, ct_r53, ct_r54, xs_T, xsR_5, xsT_4, xsL_4, xsR_6, xsT_5, xsL_5, xsR_7, xsT_6, xsL_6, xsR_8, xsT_7, xsL_7, xsR_9, xsT_8, xsL_8, xsR_10, xsT_9, xsL_9, xsR_14, xsT_10, xsL_10, xsR_17, xsT_11, xsL_11, xsR_18, xsT_12, xsL_12, xsR_24, xsT_13, xsL_13, xsR_25, xsT_14, xsL_14, xsR_26, xsT_24, xsL_24, xsR_28, xsT_106, xsL_106, xsR_34, xsT_107, xsL_107, xsR_41, xsT_108, xsL_108, xsR_42, xsT_109, xsL_109, xsR_43, xsT_110, xsL_110, xsR_44, xsT_111, xsL_111, xsR_46, xsT_112, xsL_112, xsR_52, xsT_121, xsL_121, xsR_53, xsT_122, xsL_122, xsR_54, xsT_131, xsL_131, hXs, him, m1, m2, hnone]
  rw [if_pos q, if_pos (decide_eq_true q)]
  have hB := (hSI.2.1 k hk).2 q
  obtain ⟨x, pt, pm, et', em', rt', rm', bx, tr, on, mp, mv, j1, hi, j3, j4, ⟨j5, j6, j7⟩, j8, j9⟩ := hims.2 q
  have q1 := hD.2.2.2.2.2.1
  have q2 := hD.2.2.2.2.2.2
  have q1' : et = 1 ∨ 184 ≤ et := by omega
  have e50 := dk_e50 hD
  have f50 := dk_f50 hD
  have hxt := hi.1.2.2.1
  have hxk := hi.1.2.2.2
  have hxn : x ≠ 1 := by have := hi.1.1; omega
  simp (disch := omega) only [rX0_back_0, rX0_back_1, rX0_back_4, rX0_back_7, rX0_back_8, rX0_back_9, rX0_back_10, rX0_back_13, rX0_back_14, rX0_back_15, rX0_back_16, rX0_back_17, rX0_back_20, rX0_back_21, rX0_back_24, psh_some, psh_none, bnd_r1, bnd_r0, b01_0, b01_1, lg_lt, lg_eq, lg_gt, lg_ge, lg_le, reduceIte, Bool.false_eq_true, and_true, true_and, and_false, false_and, not_true_eq_false, not_false_eq_true, eq_self, nI_add, nI_mul, nI_div, nI_irm, nI_subk, inb_ok, ix_ok, nI_lt_t, nI_lt_f, nI_le_t, nI_le_f, nI_eq_t, nI_eq_f, nI_z, ifb, ifbn, b01_bI, b01_n, Nat.reduceEqDiff, nl_l, nl_n, nl_i, nl_r, Bool.true_eq_false, reduceIte, if_true, if_false, ok0_0, ok0_1, ok0_2, ok0_3, ok0_4, ok0_5, ok0_6, ok0_7, ok0_8, ok0_9, ok0_10, ok0_11, ok0_12, ok0_13, ok0_14, ok0_15, ok0_16, ok0_17, ok0_18, ok0_19, ok0_20, ok0_21, ok0_22, ok0_23, ok0_24, ok0_25, ok0_26, ok0_27, ok0_28, ok0_29, ok0_30, ok0_31, ok0_32, ok0_33, ok0_34, ok0_35, ok0_36, ok0_37, ok0_38, ok0_39, ok0_40, ok0_41, ok0_42, ok0_43, ok0_44, ok0_45, ok0_46, ok0_47, ok0_48, ok0_49, ok0_50, ok0_51, ok0_52, ok0_53, ok0_54, ok1_141, ok2_55, ok2_56, ok2_57, ok2_58, ok2_59, ok2_60, ok2_61, ok2_62, ok2_63, ok2_64, ok2_65, ok2_66, ok2_67, ok2_68, ok2_69, ok2_70, ok2_71, ok2_72, ok2_73, ok2_74, ok2_75, ok2_76, ok2_77, ok2_78, ok2_79, ok2_80, ok2_81, ok2_82, ok2_83, ok2_84, ok2_85, ok2_86, ok2_87, ok2_88, ok2_89, ok2_90, ok2_91, ok2_92, ok2_93, ok2_94, ok2_95, ok2_96, ok2_97, ok2_98, ok2_99, ok2_100, ok2_101, ok2_102, ok2_103, ok2_104, ok2_105, ok2_106, ok2_107, ok2_108, ok2_109, ok2_110, ok2_111, ok2_112, ok2_113, ok2_114, ok2_115, ok2_116, ok2_117, ok2_118, ok2_119, ok2_120, ok2_121, ok2_122, ok2_123, ok2_124, ok2_125, ok2_126, ok2_127, ok2_128, ok2_129, ok2_130, ok2_131, ok2_132, ok2_133, ok2_134, ok2_135, ok2_136, ok2_137, ok3_171, ok3_172, ok3_173, ok3_174, ok3_175, ok3_176, ok4_171, ok4_172, ok4_173, ok4_174, ok4_175, ok4_176, ok4_177, ok4_178, ok5_171, ok5_172, ok5_173, ok5_174, ok5_175, ok5_176, ok5_177, ok5_178, ok5_179, ok7_142, ok7_143, ok7_144, ok7_145, ok7_146, ok7_147, ok7_148, ok7_149, ok7_152, ok7_153, ok7_154, ok8_142, ok8_143, ok8_144, ok8_145, ok8_146, ok8_147, ok8_148, ok8_149, ok8_152, ok8_153, ok8_154, ok8_155, ok9_142, ok9_143, ok9_144, ok9_145, ok9_146, ok9_147, ok9_148, ok9_149, ok9_152, ok9_153, ok9_154, ok9_155, ok9_180, ok10_142, ok10_143, ok10_144, ok10_145, ok10_146, ok10_147, ok10_148, ok10_149, ok10_150, ok10_151, ok11_142, ok11_143, ok11_144, ok11_145, ok11_146, ok11_147, ok11_148, ok11_149, ok11_152, ok11_153, ok11_154, ok11_155, ok11_156, ok11_157, ok13_158, ok13_159, ok13_160, ok13_161, ok13_162, ok13_163, ok13_164, ok13_165, ok13_166, ok13_167, ok13_168, ok13_169, ok13_170, ok16_138, ok16_139, ok16_140, ct_a, ct_a5, ct_b, ct_c, ct_d, ct_r50, ct_r51, ct_r52, ct_r53, ct_r54, xs_T, xsR_5, xsT_4, xsL_4, xsR_6, xsT_5, xsL_5, xsR_7, xsT_6, xsL_6, xsR_8, xsT_7, xsL_7, xsR_9, xsT_8, xsL_8, xsR_10, xsT_9, xsL_9, xsR_14, xsT_10, xsL_10, xsR_17, xsT_11, xsL_11, xsR_18, xsT_12, xsL_12, xsR_24, xsT_13, xsL_13, xsR_25, xsT_14, xsL_14, xsR_26, xsT_24, xsL_24, xsR_28, xsT_106, xsL_106, xsR_34, xsT_107, xsL_107, xsR_41, xsT_108, xsL_108, xsR_42, xsT_109, xsL_109, xsR_43, xsT_110, xsL_110, xsR_44, xsT_111, xsL_111, xsR_46, xsT_112, xsL_112, xsR_52, xsT_121, xsL_121, xsR_53, xsT_122, xsL_122, xsR_54, xsT_131, xsL_131, hXs, him, m1, m2, j1, hxt, hxk]
  obtain ⟨K1, g1, b1, n1, y1, y2⟩ := x_backA (d := d) (k := k) (L3 := none) hXs h184 q1' q2 e50 f50 hB hi j3 j4
  rw [g1]
  clear g1
  obtain ⟨K2, f1, f2, g2, b2, n2, ⟨a1, a2, a3, a4⟩, ⟨c1, c2, c3, c4⟩, d1⟩ := x_backB (d := d) (k := k) (L3 := none) b1 hXs h184 q1 q2 e50 f50 hB hi j3 j4 (dk_T hD) (dk_M hD) j6 j7 n1 y1 y2 (by omega)
  rw [g2]
  clear g2
  obtain ⟨K3, g3, b3, w3', v3⟩ := x_backC (d := d) (k := k) b2 hXs h184 q1' q2 e50 f50 hB hi j3 j4 a1 a4 (by omega)
  rw [g3]
  clear g3
  have hn2 : 184 ≤ hN K2 := Nat.le_trans h184 b2.1
  have hn3 : 184 ≤ hN K3 := Nat.le_trans h184 b3.1
  obtain ⟨K4, g4, b4, w4, u4, v4⟩ := x_backD (d := d) (k := k) (l3 := some (vi (nI (img k s 0 2)))) b3 hXs h184 q1' q2 e50 f50 hB hi j3 j4 (w3'.lst (by decide) hn2 c1) (fun t ht => by rw [w3'.2.2.2.1]; exact c4 t ht) (by omega)
  rw [g4]
  clear g4
  obtain ⟨K5, g5, b5, w5, r5, s5⟩ := x_backE (d := d) (k := k) (l3 := some (vi (nI (img k s 0 3)))) b4 hXs h184 q1' q2 e50 f50 hB hi j3 j4
  rw [g5]
  clear g5
  have hX5 := b5.xs hXs h184 q1' q2
  have i5 := b5.img hB hi e50 f50 h184 j3 j4
  have E : ∀ g, g ≤ 17 → g ≠ 1 → ¬ (g = 5 ∨ g = 14) → bkW s k g = img k s g := fun g h1 h2 h3 => by rw [bkW_ne h2, bkS_lo h1 h3]
  have E26 : ∀ i, i ≤ 1 → bkW s k 26 i = img k s 26 i := fun i hi => by
    rw [bkW_ne (by decide)]
    unfold bkS
    rw [if_pos (Or.inr ⟨rfl, hi⟩), bkv_ne (by decide)]
  have E26' : ∀ i, 2 ≤ i → bkW s k 26 i = s 26 i := fun i hi => by
    rw [bkW_ne (by decide)]
    unfold bkS
    rw [if_neg (by omega)]
  have E5 : ∀ t, t < img k s 0 2 → bkW s k 5 t = img k s 5 t := fun t ht => by
    rw [bkW_ne (by decide)]
    unfold bkS
    rw [if_pos (Or.inl (by decide))]
    show (if _ then _ else _) = _
    rw [if_pos (by decide), oz_1 (hB.2.2.1 t ht).2.2.2.1]
  have E14 : ∀ m, m < img k s 0 3 → bkW s k 14 m = img k s 14 m := fun m hm => by
    rw [bkW_ne (by decide)]
    unfold bkS
    rw [if_pos (Or.inl (by decide))]
    show (if _ then _ else _) = _
    rw [if_pos (by decide), oz_1 (hB.2.2.2.2.2.1 m hm).2.2.2.2.2.2.1]
  have hn4 : 184 ≤ hN K4 := Nat.le_trans h184 b4.1
  have hn5 : 184 ≤ hN K5 := Nat.le_trans h184 b5.1
  have lT5 : LSt K5 5 (img k s 0 2) f1 := (w4.lst (by decide) hn3 (w3'.lst (by decide) hn2 a1)).of (Nat.le_of_eq w5.1.symm) (fun a _ => by rw [w5.2.1, w5.2.2.1]; exact ⟨rfl, rfl⟩) (w5.2.2.2.2.2.2 _ _ (by decide) (by decide) (by decide) (by decide)) (by rw [w5.2.2.2.1]) hn4
  have lM5 : LSt K5 6 (img k s 0 3) f2 := (w4.lst (by decide) hn3 (w3'.lst (by decide) hn2 c1)).of (Nat.le_of_eq w5.1.symm) (fun a _ => by rw [w5.2.1, w5.2.2.1]; exact ⟨rfl, rfl⟩) (w5.2.2.2.2.2.2 _ _ (by decide) (by decide) (by decide) (by decide)) (by rw [w5.2.2.2.1]) hn4
  have h3 : ∀ i, hI K5 3 i = hI K2 3 i := fun i => ((w5.2.2.2.2.2.2 3 i (by decide) (by decide) (by decide) (by decide)).trans (w4.2.2.2.2.2 3 i (by decide)).1).trans (w3'.2.2.2.2.2 3 i (by decide)).1
  have hR5 : ∀ a i, hR K5 a i = hR K2 a i := fun a i => by rw [w5.2.2.2.1, w4.2.2.2.1, w3'.2.2.2.1]
  have hob : ∀ a i, 184 ≤ a → hI K5 a i = hI K4 a i := fun a i ha => w5.2.2.2.2.2.2 a i (by omega) (by omega) (by omega) (by omega)
  have hG3 : ∀ i, i ≠ 2 → i ≠ 3 → i ≠ 16 → i ≠ 45 → hI K5 3 i = hI G 3 i := fun i q1 q2 q3 q4 => b5.2.2.2.2.1 3 i (by omega) (by unfold BI; omega)
  obtain ⟨cr1, cr2, cr3, cr4, cr5, cr6, cr7, cr8, -⟩ := hD.2.2.1
  have hCR : CR (bkW s k) w K5 := by
    refine ⟨?_, ?_, ?_, ?_, ?_, ?_, ?_, ?_, fun t ht => ?_, fun j hj => ?_⟩
    · rw [h3, E 0 (by decide) (by decide) (by decide)]; exact n2.1
    · rw [h3, E 0 (by decide) (by decide) (by decide)]; exact n2.2.1
    · rw [b5.2.2.2.2.2.1 3 _ (by omega) (by omega)]; exact cr3
    · rw [h3, E26 1 (by decide)]; exact n2.2.2.1
    · rw [h3, E26 0 (by decide)]; exact n2.2.2.2
    · rw [hG3 _ (by decide) (by decide) (by decide) (by decide), E26' 2 (by decide)]; exact cr6
    · rw [hG3 _ (by decide) (by decide) (by decide) (by decide), E26' 3 (by decide)]; exact cr7
    · rw [hG3 _ (by decide) (by decide) (by decide) (by decide)]; exact cr8
    · rw [E 8 (by decide) (by decide) (by decide)]; exact r5 t ht
    · rw [E26 0 (by decide)] at hj
      rw [E 15 (by decide) (by decide) (by decide), E 16 (by decide) (by decide) (by decide), E 17 (by decide) (by decide) (by decide)]; exact s5 j hj
  have e02 : bkW s k 0 = img k s 0 := E 0 (by decide) (by decide) (by decide)
  have hDs : DKs (bkW s k) w f1 f2 rt' rm' K5 := by
    refine ⟨hX5, hn5, hCR, ⟨by rw [e02]; exact lT5, fun t ht => ?_⟩, ⟨by rw [e02]; exact lM5, fun m hm => ?_⟩, d1, by omega⟩
    · rw [e02] at ht
      refine ⟨by rw [hR5]; exact a4 t ht, ?_, ?_, ?_⟩
      · have := (i5.2.2.2.1.2.2.2 t ht).2
        unfold TH
        rw [E 2 (by decide) (by decide) (by decide), E 3 (by decide) (by decide) (by decide), E 6 (by decide) (by decide) (by decide), E 7 (by decide) (by decide) (by decide)]
        exact this
      · have hib : inbox (bkW s k) t = inbox (img k s) t := by funext c; unfold inbox; rw [E 4 (by decide) (by decide) (by decide)]
        rw [hib, w5.2.2.2.2.1, (u4 t ht).1]; exact (v3 t ht).1
      · have hr := (i5.2.2.2.1.2.2.2 t ht).2.1
        rw [E5 t ht, hob _ _ hr, (u4 t ht).2]; exact (v3 t ht).2
    · rw [e02] at hm
      have hme := (i5.2.2.2.2.1.2.2.2 m hm).2
      refine ⟨by rw [hR5]; exact c4 m hm, ?_, fun h4 => ?_, ?_⟩
      · unfold ME
        rw [E 9 (by decide) (by decide) (by decide), E 10 (by decide) (by decide) (by decide), E 11 (by decide) (by decide) (by decide), E 12 (by decide) (by decide) (by decide), E 13 (by decide) (by decide) (by decide)]
        exact hme.1
      · rw [E 9 (by decide) (by decide) (by decide)] at h4
        unfold MR
        rw [kpt4 (σ := img k s) (σ' := bkW s k) (fun g hg => E g (by omega) (by omega) (by omega)) h4 (hB.2.2.2.2.2.1 m hm).1]
        exact hme.2 h4
      · rw [E14 m hm, hob _ _ hme.1.1]; exact v4 m hm
  obtain ⟨Hw, G', o1, o2, o3, o4, o5⟩ := x_wallsBecome (d := d - 1) hDs (SB.bk hB) (fun g hg => (bkW_ne hg).symm) (by omega)
  have hwl : hJ K5 x 160 = wd (fun c => decide (bkS s k 1 c = 1)) := by
    rw [bkS_lo (by decide) (by decide)]
    exact i5.2.1.2.2.1
  have hxt5 := i5.1.2.2.1
  have hfq := Wl.fq o4 o5
  have o4b := o4
  obtain ⟨vv, vN, ⟨vT, vL⟩, vR, vI, -, -, vG⟩ := o4b
  have hN' : hN G' = hN K5 := o5.1.1.trans vN
  have hT' : ∀ a, hT G' a = hT K5 a := fun a => by rw [o5.1.2.2.2.1, vT]
  have hL' : ∀ a, hL G' a = hL K2 a := fun a => by rw [o5.1.2.2.2.2.1, vL, w5.2.2.1, w4.2.2.1, w3'.2.2.1]
  have hR' : ∀ a i, hR G' a i = hR K5 a i := fun a i => by rw [o5.1.2.2.2.2.2]; exact vR a i
  have hI3 : ∀ i, i ≠ 11 → i ≠ 12 → i ≠ 47 → hI G' 3 i = hI K5 3 i := fun i q1 q2 q3 => (o5.2.1 3 i List.not_mem_nil (by simp only [List.mem_cons, List.not_mem_nil, or_false]; omega)).trans (vI 3 i (by decide))
  have hRlo : ∀ a i, a < 184 → a ≠ 5 → a ≠ 6 → hR G' a i = hR G a i := fun a i q1 q2 q3 => (hR' a i).trans (b5.2.2.2.1 a i (by omega) q2 q3 (by omega) (by omega))
  have hv : Lv et em G G' := b5.lv.trans (vv.trans (o5.sy.lv (fun _ q => absurd q List.not_mem_nil)) (Or.inl rfl) (Or.inr (Or.inl rfl))) (by omega) (by omega)
  have hbn := b5.1
  have hnm : ∀ j, (j = 1 ∨ j = 2) → NM G' (hN G' - j) := fun j hj => by
    have n9 : NM G (hN G - 1) := hX.2.2.2.2.2.1
    have n10 : NM G (hN G - 2) := hX.2.2.2.2.2.2
    rw [hN']
    by_cases y : hN G ≤ hN K5 - j
    · right
      rw [hT', b5.2.2.2.2.2.2 _ y (by omega)]; omega
    · have hh : hT G' (hN K5 - j) = hT G (hN K5 - j) := (hT' _).trans (b5.2.2.1 _ (by omega)).1
      rcases (show hN K5 - j = hN G - 1 ∨ hN K5 - j = hN G - 2 by omega) with e | e
      · rw [e] at hh ⊢; exact n9.of hh
      · rw [e] at hh ⊢; exact n10.of hh
  have hXX := hX
  obtain ⟨⟨ta, tb', tc, te, t1, t2, t3, t4, t5, t6, t7, t8⟩, hwn, -⟩ := hX
  have hcx : CX s h f1 f2 G' := CX.lv hSI hXX h184 e50 f50 (dk_et hD) (dk_em hD) hv ⟨ta, tb', tc, te, t1, t2, t3, t4, ((hI3 _ (by decide) (by decide) (by decide)).trans (hG3 _ (by decide) (by decide) (by decide) (by decide))).trans t5, ((hI3 _ (by decide) (by decide) (by decide)).trans (hG3 _ (by decide) (by decide) (by decide) (by decide))).trans t6, ((hI3 _ (by decide) (by decide) (by decide)).trans (hG3 _ (by decide) (by decide) (by decide) (by decide))).trans t7, ((hI3 _ (by decide) (by decide) (by decide)).trans (hG3 _ (by decide) (by decide) (by decide) (by decide))).trans t8⟩ (((hI3 _ (by decide) (by decide) (by decide)).trans (hG3 _ (by decide) (by decide) (by decide) (by decide))).trans hwn) (fun j hj => hRlo _ _ (by omega) (by omega) (by omega)) (fun j hj => hRlo _ _ (by omega) (by omega) (by omega)) (fun j hj => hRlo _ _ (by omega) (by omega) (by omega)) ⟨hnm 1 (by omega), hnm 2 (by omega)⟩ (by omega) (by omega) (by rw [hL']; exact a3) (by rw [hL']; exact c3)
  have hag : AgX s (bkS s k) := ⟨bkS_hi (by decide) (by decide), bkS_hi (by decide) (by decide), bkS_hi (by decide) (by decide), bkS_hi (by decide) (by decide), bkS_hi (by decide) (by decide), bkS_hi (by decide) (by decide), bkS_hi (by decide) (by decide), bkS_hi (by decide) (by decide), fun _ => bkS_img⟩
  refine ⟨G', ?_, ⟨⟨by omega, fun a ha => ?_⟩, (b5.2.1.trans hfq.2).mono (by omega) (by omega)⟩, f1, f2, rt', rm', o2, o3 _, CX.ag hag hcx⟩
  · simp (disch := omega) only [rX0_back_274, rX0_back_275, rX0_back_276, rX0_back_279, rX0_back_282, rX0_back_283, psh_some, psh_none, bnd_r1, bnd_r0, b01_0, b01_1, lg_lt, lg_eq, lg_gt, lg_ge, lg_le, reduceIte, Bool.false_eq_true, and_true, true_and, and_false, false_and, not_true_eq_false, not_false_eq_true, eq_self, nI_add, nI_mul, nI_div, nI_irm, nI_subk, inb_ok, ix_ok, nI_lt_t, nI_lt_f, nI_le_t, nI_le_f, nI_eq_t, nI_eq_f, nI_z, ifb, ifbn, b01_bI, b01_n, Nat.reduceEqDiff, nl_l, nl_n, nl_i, nl_r, Bool.true_eq_false, reduceIte, if_true, if_false, ok0_0, ok0_1, ok0_2, ok0_3, ok0_4, ok0_5, ok0_6, ok0_7, ok0_8, ok0_9, ok0_10, ok0_11, ok0_12, ok0_13, ok0_14, ok0_15, ok0_16, ok0_17, ok0_18, ok0_19, ok0_20, ok0_21, ok0_22, ok0_23, ok0_24, ok0_25, ok0_26, ok0_27, ok0_28, ok0_29, ok0_30, ok0_31, ok0_32, ok0_33, ok0_34, ok0_35, ok0_36, ok0_37, ok0_38, ok0_39, ok0_40, ok0_41, ok0_42, ok0_43, ok0_44, ok0_45, ok0_46, ok0_47, ok0_48, ok0_49, ok0_50, ok0_51, ok0_52, ok0_53, ok0_54, ok1_141, ok2_55, ok2_56, ok2_57, ok2_58, ok2_59, ok2_60, ok2_61, ok2_62, ok2_63, ok2_64, ok2_65, ok2_66, ok2_67, ok2_68, ok2_69, ok2_70, ok2_71, ok2_72, ok2_73, ok2_74, ok2_75, ok2_76, ok2_77, ok2_78, ok2_79, ok2_80, ok2_81, ok2_82, ok2_83, ok2_84, ok2_85, ok2_86, ok2_87, ok2_88, ok2_89, ok2_90, ok2_91, ok2_92, ok2_93, ok2_94, ok2_95, ok2_96, ok2_97, ok2_98, ok2_99, ok2_100, ok2_101, ok2_102, ok2_103, ok2_104, ok2_105, ok2_106, ok2_107, ok2_108, ok2_109, ok2_110, ok2_111, ok2_112, ok2_113, ok2_114, ok2_115, ok2_116, ok2_117, ok2_118, ok2_119, ok2_120, ok2_121, ok2_122, ok2_123, ok2_124, ok2_125, ok2_126, ok2_127, ok2_128, ok2_129, ok2_130, ok2_131, ok2_132, ok2_133, ok2_134, ok2_135, ok2_136, ok2_137, ok3_171, ok3_172, ok3_173, ok3_174, ok3_175, ok3_176, ok4_171, ok4_172, ok4_173, ok4_174, ok4_175, ok4_176, ok4_177, ok4_178, ok5_171, ok5_172, ok5_173, ok5_174, ok5_175, ok5_176, ok5_177, ok5_178, ok5_179, ok7_142, ok7_143, ok7_144, ok7_145, ok7_146, ok7_147, ok7_148, ok7_149, ok7_152, ok7_153, ok7_154, ok8_142, ok8_143, ok8_144, ok8_145, ok8_146, ok8_147, ok8_148, ok8_149, ok8_152, ok8_153, ok8_154, ok8_155, ok9_142, ok9_143, ok9_144, ok9_145, ok9_146, ok9_147, ok9_148, ok9_149, ok9_152, ok9_153, ok9_154, ok9_155, ok9_180, ok10_142, ok10_143, ok10_144, ok10_145, ok10_146, ok10_147, ok10_148, ok10_149, ok10_150, ok10_151, ok11_142, ok11_143, ok11_144, ok11_145, ok11_146, ok11_147, ok11_148, ok11_149, ok11_152, ok11_153, ok11_154, ok11_155, ok11_156, ok11_157, ok13_158, ok13_159, ok13_160, ok13_161, ok13_162, ok13_163, ok13_164, ok13_165, ok13_166, ok13_167, ok13_168, ok13_169, ok13_170, ok16_138, ok16_139, ok16_140, ct_a, ct_a5, ct_b, ct_c, ct_d, ct_r50, ct_r51, ct_r52, ct_r53, ct_r54, xs_T, xsR_5, xsT_4, xsL_4, xsR_6, xsT_5, xsL_5, xsR_7, xsT_6, xsL_6, xsR_8, xsT_7, xsL_7, xsR_9, xsT_8, xsL_8, xsR_10, xsT_9, xsL_9, xsR_14, xsT_10, xsL_10, xsR_17, xsT_11, xsL_11, xsR_18, xsT_12, xsL_12, xsR_24, xsT_13, xsL_13, xsR_25, xsT_14, xsL_14, xsR_26, xsT_24, xsL_24, xsR_28, xsT_106, xsL_106, xsR_34, xsT_107, xsL_107, xsR_41, xsT_108, xsL_108, xsR_42, xsT_109, xsL_109, xsR_43, xsT_110, xsL_110, xsR_44, xsT_111, xsL_111, xsR_46, xsT_112, xsL_112, xsR_52, xsT_121, xsL_121, xsR_53, xsT_122, xsL_122, xsR_54, xsT_131, xsL_131, hX5, hxt5, hwl, o1]
    rw [if_neg (fun y => by cases y)]
  · obtain ⟨p1, p2, p3, p4, p5⟩ := hfq.1.2 a ha
    have ha2 : a < hN G := by omega
    have hz : a ≠ 5 ∧ a ≠ 6 := by omega
    exact ⟨p1.trans (b5.2.2.1 a ha2).1, p2.trans (b5.2.2.1 a ha2).2, fun i => (p3 i).trans (b5.2.2.2.1 a i ha2 hz.1 hz.2 (by omega) (by omega)), fun i => (p4 i).trans (b5.2.2.2.2.1 a i ha2 (by unfold BI; omega)), fun i => (p5 i).trans (b5.2.2.2.2.2.1 a i ha2 (by omega))⟩
end
