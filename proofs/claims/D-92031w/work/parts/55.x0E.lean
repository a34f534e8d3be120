/-! the class: liars -/
def LN (N : Nat) (F : Nat → Nat) (G : AH) : Prop := hI G 3 49 = nI N ∧ hI G 3 50 = w3 (fun v => decide (0 < N) && decide (F v = N)) ∧ hI G 3 51 = w3 (fun v => decide (0 < F v)) ∧ (∀ v, F v ≤ N) ∧ ∀ v, 24 ≤ v → F v = 0
noncomputable def pce (s : SGT) (S : Nat → Bool) : Bool := !quar s (fun m => onU s m && (!S (s 10 m) && !S (s 11 m)))
section
variable {d : Nat} {G G' : AH} {s : SGT} {h : Nat → Nat → Int64} {w : Int32} {et em : Nat} {rt rm : Nat → Nat} {l f : List Nat}
theorem LN.sx {N : Nat} {F : Nat → Nat} (h : LN N F G) (k : Sx l f G G') (h3 : 3 ∉ l) (hf : 49 ∉ f ∧ 50 ∉ f ∧ 51 ∉ f) : LN N F G' := ⟨by rw [k.2.1 _ _ h3 (fun q => hf.1 q.2)]; exact h.1, by rw [k.2.1 _ _ h3 (fun q => hf.2.1 q.2)]; exact h.2.1, by rw [k.2.1 _ _ h3 (fun q => hf.2.2 q.2)]; exact h.2.2.1, h.2.2.2⟩
theorem w3_two {S : Nat → Bool} {a b : Nat} (ha : a < 24) (hb : b < 24) : (w3 S &&& (nI 1 <<< (nI a &&& 31) ||| nI 1 <<< (nI b &&& 31)) = nI 0) = ((!S a && !S b) = true) := by
  rw [w3_bit (by omega), w3_bit (by omega), w3_or, w3_and]
  refine propext ⟨fun q => ?_, fun q => ?_⟩
  · have h1 := w3_eq0.mp q a (by omega)
    have h2 := w3_eq0.mp q b (by omega)
    simp at h1 h2
    simp [h1, h2]
  · refine w3_eq0.mpr fun c _ => ?_
    simp at q
    by_cases e1 : c = a
    · subst e1; simp [q.1]
    · by_cases e2 : c = b
      · subst e2; simp [q.2]
      · simp [e1, e2]
set_option maxHeartbeats 2000000 in
theorem x_isPeace {S : Nat → Bool} (hD : DK s w et em rt rm G) (hS : SB s) (hd : 8 ≤ d) : ∃ G', cl d 118 [vr (some 3), vi (w3 S)] G = some (.inl (some (vi (bI (pce s S)))), G') ∧ Sx [9, 8] [] G G' := by
  have h0 := hS.1
  rw [en118]
  simp (disch := omega) only [rX0_isPeace_0, rX0_isPeace_1, psh_some, psh_none, bnd_r1, bnd_r0, b01_0, b01_1, lg_lt, lg_eq, lg_gt, lg_ge, lg_le, reduceIte, Bool.false_eq_true, and_true, true_and, and_false, false_and, not_true_eq_false, not_false_eq_true, eq_self, nI_add, nI_mul, nI_div, nI_irm, nI_subk, inb_ok, ix_ok, nI_lt_t, nI_lt_f, nI_le_t, nI_le_f, nI_eq_t, nI_eq_f, nI_z, ifb, ifbn, b01_bI, b01_n, Nat.reduceEqDiff, nl_l, nl_n, nl_i, nl_r, Bool.true_eq_false, reduceIte, if_true, if_false]
  refine lpQ (P := fun m (q : AH × Option AV) => At d 118 2 [some (vr (some 3)), some (vi (w3 S)), some (vi (nI m)), q.2] [] q.1) (Q := fun q => ∃ G', q = some (.inl (some (vi (bI (pce s S)))), G') ∧ Sx [9, 8] [] G G') (fun m q => Sx [9] [] G q.1 ∧ ∀ j, j < m → hI q.1 9 j = bI (onU s j && (!S (s 10 j) && !S (s 11 j)))) (s 0 3) ?_ ?_ (Nat.zero_le _) (s := (G, none)) ⟨Sx.refl G, fun j hj => absurd hj (by omega)⟩
  · rintro m ⟨H, l3⟩ hm ⟨a0, a1⟩ ih
    dsimp only at a0 a1 ih ⊢
    have hDH := hD.sx a0 (by decide)
    have hX := hDH.1
    have hsz := c_size (d := d - 1) (dk_M hDH)
    have hT6 := (dk_M hDH).1
    have hg := x_getM (d := d - 1) hDH hm (by omega)
    have hme := dk_me hDH hm
    have htg := me_tag hS hm hme
    obtain ⟨-, -, o3, o4, o5, -⟩ := me_ok htg
    obtain ⟨-, -, -, -, -, a6, a7, -⟩ := hme
    have hon := dk_on hDH hm
    have hmm := hS.2.2.2.2.2.1 m hm
    have hnx : ∀ b : Bool, b = (onU s m && (!S (s 10 m) && !S (s 11 m))) → ∃ G', At d 118 2 [some (vr (some 3)), some (vi (w3 S)), some (vi (nI (m + 1))), some (vr (some (rm m)))] [] (sI H 9 m (bI b)) = some (.inl (some (vi (bI (pce s S)))), G') ∧ Sx [9, 8] [] G G' := fun b hb => by
      refine ih (sI H 9 m (bI b), _) ⟨a0.trans (Sx.sI (Or.inl (by decide))), fun j hj => ?_⟩
      dsimp only
      rw [hI_sI]
      by_cases e : j = m
      · rw [e, if_pos ⟨rfl, rfl⟩, hb]
      · rw [if_neg (by omega)]; exact a1 j (by omega)
    have htw := w3_two (S := S) (a := s 10 m) (b := s 11 m) (by omega) (by omega)
    rw [rX0_isPeace_2]
    rcases (show s 14 m = 0 ∨ s 14 m = 1 by omega) with q | q
    · rw [q] at hon
      have := hnx false (by unfold onU; rw [q]; rfl)
      simp (disch := first | omega | assumption) only [rX0_isPeace_3, rX0_isPeace_4, rX0_isPeace_7, rX0_isPeace_12, rX0_isPeace_15, rX0_isPeace_16, rX0_isPeace_19, rX0_isPeace_20, rX0_isPeace_25, rX0_isPeace_25_n, rX0_isPeace_28, rX0_isPeace_29, rX0_isPeace_30, rX0_isPeace_33, rX0_isPeace_34, rX0_isPeace_35, rX0_isPeace_38, rX0_isPeace_63, rX0_isPeace_64, rX0_isPeace_65, rX0_isPeace_68, psh_some, psh_none, bnd_r1, bnd_r0, b01_0, b01_1, lg_lt, lg_eq, lg_gt, lg_ge, lg_le, reduceIte, Bool.false_eq_true, and_true, true_and, and_false, false_and, not_true_eq_false, not_false_eq_true, eq_self, nI_add, nI_mul, nI_div, nI_irm, nI_subk, inb_ok, ix_ok, nI_lt_t, nI_lt_f, nI_le_t, nI_le_f, nI_eq_t, nI_eq_f, nI_z, ifb, ifbn, b01_bI, b01_n, Nat.reduceEqDiff, nl_l, nl_n, nl_i, nl_r, Bool.true_eq_false, reduceIte, if_true, if_false, ok0_0, ok0_1, ok0_2, ok0_3, ok0_4, ok0_5, ok0_6, ok0_7, ok0_8, ok0_9, ok0_10, ok0_11, ok0_12, ok0_13, ok0_14, ok0_15, ok0_16, ok0_17, ok0_18, ok0_19, ok0_20, ok0_21, ok0_22, ok0_23, ok0_24, ok0_25, ok0_26, ok0_27, ok0_28, ok0_29, ok0_30, ok0_31, ok0_32, ok0_33, ok0_34, ok0_35, ok0_36, ok0_37, ok0_38, ok0_39, ok0_40, ok0_41, ok0_42, ok0_43, ok0_44, ok0_45, ok0_46, ok0_47, ok0_48, ok0_49, ok0_50, ok0_51, ok0_52, ok0_53, ok0_54, ok1_141, ok2_55, ok2_56, ok2_57, ok2_58, ok2_59, ok2_60, ok2_61, ok2_62, ok2_63, ok2_64, ok2_65, ok2_66, ok2_67, ok2_68, ok2_69, ok2_70, ok2_71, ok2_72, ok2_73, ok2_74, ok2_75, ok2_76, ok2_77, ok2_78, ok2_79, ok2_80, ok2_81, ok2_82, ok2_83, ok2_84, ok2_85, ok2_86, ok2_87, ok2_88, ok2_89, ok2_90, ok2_91, ok2_92, ok2_93, ok2_94, ok2_95, ok2_96, ok2_97, ok2_98, ok2_99, ok2_100, ok2_101, ok2_102, ok2_103, ok2_104, ok2_105, ok2_106, ok2_107, ok2_108, ok2_109, ok2_110, ok2_111, ok2_112, ok2_113, ok2_114, ok2_115, ok2_116, ok2_117, ok2_118, ok2_119, ok2_120, ok2_121, ok2_122, ok2_123, ok2_124, ok2_125, ok2_126, ok2_127, ok2_128, ok2_129, ok2_130, ok2_131, ok2_132, ok2_133, ok2_134, ok2_135, ok2_136, ok2_137, ok3_171, ok3_172, ok3_173, ok3_174, ok3_175, ok3_176, ok4_171, ok4_172, ok4_173, ok4_174, ok4_175, ok4_176, ok4_177, ok4_178, ok5_171, ok5_172, ok5_173, ok5_174, ok5_175, ok5_176, ok5_177, ok5_178, ok5_179, ok7_142, ok7_143, ok7_144, ok7_145, ok7_146, ok7_147, ok7_148, ok7_149, ok7_152, ok7_153, ok7_154, ok8_142, ok8_143, ok8_144, ok8_145, ok8_146, ok8_147, ok8_148, ok8_149, ok8_152, ok8_153, ok8_154, ok8_155, ok9_142, ok9_143, ok9_144, ok9_145, ok9_146, ok9_147, ok9_148, ok9_149, ok9_152, ok9_153, ok9_154, ok9_155, ok9_180, ok10_142, ok10_143, ok10_144, ok10_145, ok10_146, ok10_147, ok10_148, ok10_149, ok10_150, ok10_151, ok11_142, ok11_143, ok11_144, ok11_145, ok11_146, ok11_147, ok11_148, ok11_149, ok11_152, ok11_153, ok11_154, ok11_155, ok11_156, ok11_157, ok13_158, ok13_159, ok13_160, ok13_161, ok13_162, ok13_163, ok13_164, ok13_165, ok13_166, ok13_167, ok13_168, ok13_169, ok13_170, ok16_138, ok16_139, ok16_140, ct_a, ct_a5, ct_b, ct_c, ct_d, ct_r50, ct_r51, ct_r52, ct_r53, ct_r54, xs_T, xsR_5, xsT_4, xsL_4, xsR_6, xsT_5, xsL_5, xsR_7, xsT_6, xsL_6, xsR_8, xsT_7, xsL_7, xsR_9, xsT_8, xsL_8, xsR_10, xsT_9, xsL_9, xsR_14, xsT_10, xsL_10, xsR_17, xsT_11, xsL_11, xsR_18, xsT_12, xsL_12, xsR_24, xsT_13, xsL_13, xsR_25, xsT_14, xsL_14, xsR_26, xsT_24, xsL_24, xsR_28, xsT_106, xsL_106, xsR_34, xsT_107, xsL_107, xsR_41, xsT_108, xsL_108, xsR_42, xsT_109, xsL_109, xsR_43, xsT_110, xsL_110, xsR_44, xsT_111, xsL_111, xsR_46, xsT_112, xsL_112, xsR_52, xsT_121, xsL_121, xsR_53, xsT_122, xsL_122, xsR_54, xsT_131, xsL_131, hX, hT6, hsz, hg, htg, o5, hon]
      exact this
    · rw [q] at hon
      have hU : onU s m = true := by unfold onU; rw [q]; rfl
      cases q2 : (!S (s 10 m) && !S (s 11 m)) with
      | true =>
        rw [eq_true q2] at htw
        have := hnx true (by rw [hU, q2]; rfl)
        simp (disch := first | omega | assumption) only [rX0_isPeace_3, rX0_isPeace_4, rX0_isPeace_7, rX0_isPeace_12, rX0_isPeace_15, rX0_isPeace_16, rX0_isPeace_19, rX0_isPeace_20, rX0_isPeace_25, rX0_isPeace_25_n, rX0_isPeace_28, rX0_isPeace_29, rX0_isPeace_30, rX0_isPeace_33, rX0_isPeace_34, rX0_isPeace_35, rX0_isPeace_38, rX0_isPeace_41, rX0_isPeace_42, rX0_isPeace_43, rX0_isPeace_44, rX0_isPeace_47, rX0_isPeace_48, rX0_isPeace_49, rX0_isPeace_50, rX0_isPeace_53, rX0_isPeace_54, rX0_isPeace_55, rX0_isPeace_56, rX0_isPeace_59, rX0_isPeace_60, rX0_isPeace_63, rX0_isPeace_64, rX0_isPeace_65, rX0_isPeace_68, psh_some, psh_none, bnd_r1, bnd_r0, b01_0, b01_1, lg_lt, lg_eq, lg_gt, lg_ge, lg_le, reduceIte, Bool.false_eq_true, and_true, true_and, and_false, false_and, not_true_eq_false, not_false_eq_true, eq_self, nI_add, nI_mul, nI_div, nI_irm, nI_subk, inb_ok, ix_ok, nI_lt_t, nI_lt_f, nI_le_t, nI_le_f, nI_eq_t, nI_eq_f, nI_z, ifb, ifbn, b01_bI, b01_n, Nat.reduceEqDiff, nl_l, nl_n, nl_i, nl_r, Bool.true_eq_false, reduceIte, if_true, if_false, ok0_0, ok0_1, ok0_2, ok0_3, ok0_4, ok0_5, ok0_6, ok0_7, ok0_8, ok0_9, ok0_10, ok0_11, ok0_12, ok0_13, ok0_14, ok0_15, ok0_16, ok0_17, ok0_18, ok0_19, ok0_20, ok0_21, ok0_22, ok0_23, ok0_24, ok0_25, ok0_26, ok0_27, ok0_28, ok0_29, ok0_30, ok0_31, ok0_32, ok0_33, ok0_34, ok0_35, ok0_36, ok0_37, ok0_38, ok0_39, ok0_40, ok0_41, ok0_42, ok0_43, ok0_44, ok0_45, ok0_46, ok0_47, ok0_48, ok0_49, ok0_50, ok0_51, ok0_52, ok0_53, ok0_54, ok1_141, ok2_55, ok2_56, ok2_57, ok2_58, ok2_59, ok2_60, ok2_61, ok2_62, ok2_63, ok2_64, ok2_65, ok2_66, ok2_67, ok2_68, ok2_69, ok2_70, ok2_71, ok2_72, ok2_73, ok2_74, ok2_75, ok2_76, ok2_77, ok2_78, ok2_79, ok2_80, ok2_81, ok2_82, ok2_83, ok2_84, ok2_85, ok2_86, ok2_87, ok2_88, ok2_89, ok2_90, ok2_91, ok2_92, ok2_93, ok2_94, ok2_95, ok2_96, ok2_97, ok2_98, ok2_99, ok2_100, ok2_101, ok2_102, ok2_103, ok2_104, ok2_105, ok2_106, ok2_107, ok2_108, ok2_109, ok2_110, ok2_111, ok2_112, ok2_113, ok2_114, ok2_115, ok2_116, ok2_117, ok2_118, ok2_119, ok2_120, ok2_121, ok2_122, ok2_123, ok2_124, ok2_125, ok2_126, ok2_127, ok2_128, ok2_129, ok2_130, ok2_131, ok2_132, ok2_133, ok2_134, ok2_135, ok2_136, ok2_137, ok3_171, ok3_172, ok3_173, ok3_174, ok3_175, ok3_176, ok4_171, ok4_172, ok4_173, ok4_174, ok4_175, ok4_176, ok4_177, ok4_178, ok5_171, ok5_172, ok5_173, ok5_174, ok5_175, ok5_176, ok5_177, ok5_178, ok5_179, ok7_142, ok7_143, ok7_144, ok7_145, ok7_146, ok7_147, ok7_148, ok7_149, ok7_152, ok7_153, ok7_154, ok8_142, ok8_143, ok8_144, ok8_145, ok8_146, ok8_147, ok8_148, ok8_149, ok8_152, ok8_153, ok8_154, ok8_155, ok9_142, ok9_143, ok9_144, ok9_145, ok9_146, ok9_147, ok9_148, ok9_149, ok9_152, ok9_153, ok9_154, ok9_155, ok9_180, ok10_142, ok10_143, ok10_144, ok10_145, ok10_146, ok10_147, ok10_148, ok10_149, ok10_150, ok10_151, ok11_142, ok11_143, ok11_144, ok11_145, ok11_146, ok11_147, ok11_148, ok11_149, ok11_152, ok11_153, ok11_154, ok11_155, ok11_156, ok11_157, ok13_158, ok13_159, ok13_160, ok13_161, ok13_162, ok13_163, ok13_164, ok13_165, ok13_166, ok13_167, ok13_168, ok13_169, ok13_170, ok16_138, ok16_139, ok16_140, ct_a, ct_a5, ct_b, ct_c, ct_d, ct_r50, ct_r51, ct_r52, ct_r53, ct_r54, xs_T, xsR_5, xsT_4, xsL_4, xsR_6, xsT_5, xsL_5, xsR_7, xsT_6, xsL_6, xsR_8, xsT_7, xsL_7, xsR_9, xsT_8, xsL_8, xsR_10, xsT_9, xsL_9, xsR_14, xsT_10, xsL_10, xsR_17, xsT_11, xsL_11, xsR_18, xsT_12, xsL_12, xsR_24, xsT_13, xsL_13, xsR_25, xsT_14, xsL_14, xsR_26, xsT_24, xsL_24, xsR_28, xsT_106, xsL_106, xsR_34, xsT_107, xsL_107, xsR_41, xsT_108, xsL_108, xsR_42, xsT_109, xsL_109, xsR_43, xsT_110, xsL_110, xsR_44, xsT_111, xsL_111, xsR_46, xsT_112, xsL_112, xsR_52, xsT_121, xsL_121, xsR_53, xsT_122, xsL_122, xsR_54, xsT_131, xsL_131, hX, hT6, hsz, hg, htg, o3, o4, o5, a6, a7, hon, htw]
        exact this
      | false =>
        have hnq : ¬ ((!S (s 10 m) && !S (s 11 m)) = true) := by rw [q2]; decide
        rw [eq_false hnq] at htw
        have := hnx false (by rw [hU, q2]; rfl)
        simp (disch := first | omega | assumption) only [rX0_isPeace_3, rX0_isPeace_4, rX0_isPeace_7, rX0_isPeace_12, rX0_isPeace_15, rX0_isPeace_16, rX0_isPeace_19, rX0_isPeace_20, rX0_isPeace_25, rX0_isPeace_25_n, rX0_isPeace_28, rX0_isPeace_29, rX0_isPeace_30, rX0_isPeace_33, rX0_isPeace_34, rX0_isPeace_35, rX0_isPeace_38, rX0_isPeace_41, rX0_isPeace_42, rX0_isPeace_43, rX0_isPeace_44, rX0_isPeace_47, rX0_isPeace_48, rX0_isPeace_49, rX0_isPeace_50, rX0_isPeace_53, rX0_isPeace_54, rX0_isPeace_55, rX0_isPeace_56, rX0_isPeace_59, rX0_isPeace_60, rX0_isPeace_63, rX0_isPeace_64, rX0_isPeace_65, rX0_isPeace_68, psh_some, psh_none, bnd_r1, bnd_r0, b01_0, b01_1, lg_lt, lg_eq, lg_gt, lg_ge, lg_le, reduceIte, Bool.false_eq_true, and_true, true_and, and_false, false_and, not_true_eq_false, not_false_eq_true, eq_self, nI_add, nI_mul, nI_div, nI_irm, nI_subk, inb_ok, ix_ok, nI_lt_t, nI_lt_f, nI_le_t, nI_le_f, nI_eq_t, nI_eq_f, nI_z, ifb, ifbn, b01_bI, b01_n, Nat.reduceEqDiff, nl_l, nl_n, nl_i, nl_r, Bool.true_eq_false, reduceIte, if_true, if_false, ok0_0, ok0_1, ok0_2, ok0_3, ok0_4, ok0_5, ok0_6, ok0_7, ok0_8, ok0_9, ok0_10, ok0_11, ok0_12, ok0_13, ok0_14, ok0_15, ok0_16, ok0_17, ok0_18, ok0_19, ok0_20, ok0_21, ok0_22, ok0_23, ok0_24, ok0_25, ok0_26, ok0_27, ok0_28, ok0_29, ok0_30, ok0_31, ok0_32, ok0_33, ok0_34, ok0_35, ok0_36, ok0_37, ok0_38, ok0_39, ok0_40, ok0_41, ok0_42, ok0_43, ok0_44, ok0_45, ok0_46, ok0_47, ok0_48, ok0_49, ok0_50, ok0_51, ok0_52, ok0_53, ok0_54, ok1_141, ok2_55, ok2_56, ok2_57, ok2_58, ok2_59, ok2_60, ok2_61, ok2_62, ok2_63, ok2_64, ok2_65, ok2_66, ok2_67, ok2_68, ok2_69, ok2_70, ok2_71, ok2_72, ok2_73, ok2_74, ok2_75, ok2_76, ok2_77, ok2_78, ok2_79, ok2_80, ok2_81, ok2_82, ok2_83, ok2_84, ok2_85, ok2_86, ok2_87, ok2_88, ok2_89, ok2_90, ok2_91, ok2_92, ok2_93, ok2_94, ok2_95, ok2_96, ok2_97, ok2_98, ok2_99, ok2_100, ok2_101, ok2_102, ok2_103, ok2_104, ok2_105, ok2_106, ok2_107, ok2_108, ok2_109, ok2_110, ok2_111, ok2_112, ok2_113, ok2_114, ok2_115, ok2_116, ok2_117, ok2_118, ok2_119, ok2_120, ok2_121, ok2_122, ok2_123, ok2_124, ok2_125, ok2_126, ok2_127, ok2_128, ok2_129, ok2_130, ok2_131, ok2_132, ok2_133, ok2_134, ok2_135, ok2_136, ok2_137, ok3_171, ok3_172, ok3_173, ok3_174, ok3_175, ok3_176, ok4_171, ok4_172, ok4_173, ok4_174, ok4_175, ok4_176, ok4_177, ok4_178, ok5_171, ok5_172, ok5_173, ok5_174, ok5_175, ok5_176, ok5_177, ok5_178, ok5_179, ok7_142, ok7_143, ok7_144, ok7_145, ok7_146, ok7_147, ok7_148, ok7_149, ok7_152, ok7_153, ok7_154, ok8_142, ok8_143, ok8_144, ok8_145, ok8_146, ok8_147, ok8_148, ok8_149, ok8_152, ok8_153, ok8_154, ok8_155, ok9_142, ok9_143, ok9_144, ok9_145, ok9_146, ok9_147, ok9_148, ok9_149, ok9_152, ok9_153, ok9_154, ok9_155, ok9_180, ok10_142, ok10_143, ok10_144, ok10_145, ok10_146, ok10_147, ok10_148, ok10_149, ok10_150, ok10_151, ok11_142, ok11_143, ok11_144, ok11_145, ok11_146, ok11_147, ok11_148, ok11_149, ok11_152, ok11_153, ok11_154, ok11_155, ok11_156, ok11_157, ok13_158, ok13_159, ok13_160, ok13_161, ok13_162, ok13_163, ok13_164, ok13_165, ok13_166, ok13_167, ok13_168, ok13_169, ok13_170, ok16_138, ok16_139, ok16_140, ct_a, ct_a5, ct_b, ct_c, ct_d, ct_r50, ct_r51, ct_r52, ct_r53, ct_r54, xs_T, xsR_5, xsT_4, xsL_4, xsR_6, xsT_5, xsL_5, xsR_7, xsT_6, xsL_6, xsR_8, xsT_7, xsL_7, xsR_9, xsT_8, xsL_8, xsR_10, xsT_9, xsL_9, xsR_14, xsT_10, xsL_10, xsR_17, xsT_11, xsL_11, xsR_18, xsT_12, xsL_12, xsR_24, xsT_13, xsL_13, xsR_25, xsT_14, xsL_14, xsR_26, xsT_24, xsL_24, xsR_28, xsT_106, xsL_106, xsR_34, xsT_107, xsL_107, xsR_41, xsT_108, xsL_108, xsR_42, xsT_109, xsL_109, xsR_43, xsT_110, xsL_110, xsR_44, xsT_111, xsL_111, xsR_46, xsT_112, xsL_112, xsR_52, xsT_121, xsL_121, xsR_53, xsT_122, xsL_122, xsR_54, xsT_131, xsL_131, hX, hT6, hsz, hg, htg, o3, o4, o5, a6, a7, hon, htw]
        exact this
  · rintro ⟨H, l3⟩ ⟨a0, a1⟩
    dsimp only at a0 a1 ⊢
    have hDH := hD.sx a0 (by decide)
    have hX := hDH.1
    have hsz := c_size (d := d - 1) (dk_M hDH)
    have hT6 := (dk_M hDH).1
    obtain ⟨H2, n1, n2⟩ := x_isStillQuarrel (d := d - 1) (U := fun j => onU s j && (!S (s 10 j) && !S (s 11 j))) hDH hS a1 (by omega)
    have hk : Sx [9, 8] [] G H2 := (a0.mono (by decide) (by decide)).trans (n2.mono (by decide) (by decide))
    rw [rX0_isPeace_2]
    unfold pce
    cases q : quar s (fun j => onU s j && (!S (s 10 j) && !S (s 11 j))) with
    | true =>
      rw [q] at n1
      simp (disch := omega) only [rX0_isPeace_3, rX0_isPeace_4, rX0_isPeace_7, rX0_isPeace_12, rX0_isPeace_71, rX0_isPeace_72, rX0_isPeace_75, rX0_isPeace_78, rX0_isPeace_79, rX0_isPeace_82, rX0_isPeace_83, psh_some, psh_none, bnd_r1, bnd_r0, b01_0, b01_1, lg_lt, lg_eq, lg_gt, lg_ge, lg_le, reduceIte, Bool.false_eq_true, and_true, true_and, and_false, false_and, not_true_eq_false, not_false_eq_true, eq_self, nI_add, nI_mul, nI_div, nI_irm, nI_subk, inb_ok, ix_ok, nI_lt_t, nI_lt_f, nI_le_t, nI_le_f, nI_eq_t, nI_eq_f, nI_z, ifb, ifbn, b01_bI, b01_n, Nat.reduceEqDiff, nl_l, nl_n, nl_i, nl_r, Bool.true_eq_false, reduceIte, if_true, if_false, ok0_0, ok0_1, ok0_2, ok0_3, ok0_4, ok0_5, ok0_6, ok0_7, ok0_8, ok0_9, ok0_10, ok0_11, ok0_12, ok0_13, ok0_14, ok0_15, ok0_16, ok0_17, ok0_18, ok0_19, ok0_20, ok0_21, ok0_22, ok0_23, ok0_24, ok0_25, ok0_26, ok0_27, ok0_28, ok0_29, ok0_30, ok0_31, ok0_32, ok0_33, ok0_34, ok0_35, ok0_36, ok0_37, ok0_38, ok0_39, ok0_40, ok0_41, ok0_42, ok0_43, ok0_44, ok0_45, ok0_46, ok0_47, ok0_48, ok0_49, ok0_50, ok0_51, ok0_52, ok0_53, ok0_54, ok1_141, ok2_55, ok2_56, ok2_57, ok2_58, ok2_59, ok2_60, ok2_61, ok2_62, ok2_63, ok2_64, ok2_65, ok2_66, ok2_67, ok2_68, ok2_69, ok2_70, ok2_71, ok2_72, ok2_73, ok2_74, ok2_75, ok2_76, ok2_77, ok2_78, ok2_79, ok2_80, ok2_81, ok2_82, ok2_83, ok2_84, ok2_85, ok2_86, ok2_87, ok2_88, ok2_89, ok2_90, ok2_91, ok2_92, ok2_93, ok2_94, ok2_95, ok2_96, ok2_97, ok2_98, ok2_99, ok2_100, ok2_101, ok2_102, ok2_103, ok2_104, ok2_105, ok2_106, ok2_107, ok2_108, ok2_109, ok2_110, ok2_111, ok2_112, ok2_113, ok2_114, ok2_115, ok2_116, ok2_117, ok2_118, ok2_119, ok2_120, ok2_121, ok2_122, ok2_123, ok2_124, ok2_125, ok2_126, ok2_127, ok2_128, ok2_129, ok2_130, ok2_131, ok2_132, ok2_133, ok2_134, ok2_135, ok2_136, ok2_137, ok3_171, ok3_172, ok3_173, ok3_174, ok3_175, ok3_176, ok4_171, ok4_172, ok4_173, ok4_174, ok4_175, ok4_176, ok4_177, ok4_178, ok5_171, ok5_172, ok5_173, ok5_174, ok5_175, ok5_176, ok5_177, ok5_178, ok5_179, ok7_142, ok7_143, ok7_144, ok7_145, ok7_146, ok7_147, ok7_148, ok7_149, ok7_152, ok7_153, ok7_154, ok8_142, ok8_143, ok8_144, ok8_145, ok8_146, ok8_147, ok8_148, ok8_149, ok8_152, ok8_153, ok8_154, ok8_155, ok9_142, ok9_143, ok9_144, ok9_145, ok9_146, ok9_147, ok9_148, ok9_149, ok9_152, ok9_153, ok9_154, ok9_155, ok9_180, ok10_142, ok10_143, ok10_144, ok10_145, ok10_146, ok10_147, ok10_148, ok10_149, ok10_150, ok10_151, ok11_142, ok11_143, ok11_144, ok11_145, ok11_146, ok11_147, ok11_148, ok11_149, ok11_152, ok11_153, ok11_154, ok11_155, ok11_156, ok11_157, ok13_158, ok13_159, ok13_160, ok13_161, ok13_162, ok13_163, ok13_164, ok13_165, ok13_166, ok13_167, ok13_168, ok13_169, ok13_170, ok16_138, ok16_139, ok16_140, ct_a, ct_a5, ct_b, ct_c, ct_d, ct_r50, ct_r51, ct_r52, ct_r53, ct_r54, xs_T, xsR_5, xsT_4, xsL_4, xsR_6, xsT_5, xsL_5, xsR_7, xsT_6, xsL_6, xsR_8, xsT_7, xsL_7, xsR_9, xsT_8, xsL_8, xsR_10, xsT_9, xsL_9, xsR_14, xsT_10, xsL_10, xsR_17, xsT_11, xsL_11, xsR_18, xsT_12, xsL_12, xsR_24, xsT_13, xsL_13, xsR_25, xsT_14, xsL_14, xsR_26, xsT_24, xsL_24, xsR_28, xsT_106, xsL_106, xsR_34, xsT_107, xsL_107, xsR_41, xsT_108, xsL_108, xsR_42, xsT_109, xsL_109, xsR_43, xsT_110, xsL_110, xsR_44, xsT_111, xsL_111, xsR_46, xsT_112, xsL_112, xsR_52, xsT_121, xsL_121, xsR_53, xsT_122, xsL_122, xsR_54, xsT_131, xsL_131, hX, hT6, hsz, n1]
      exact ⟨H2, rfl, hk⟩
    | false =>
      rw [q] at n1
      simp (disch := omega) only [rX0_isPeace_3, rX0_isPeace_4, rX0_isPeace_7, rX0_isPeace_12, rX0_isPeace_71, rX0_isPeace_72, rX0_isPeace_75, rX0_isPeace_78, rX0_isPeace_79, rX0_isPeace_82, rX0_isPeace_83, psh_some, psh_none, bnd_r1, bnd_r0, b01_0, b01_1, lg_lt, lg_eq, lg_gt, lg_ge, lg_le, reduceIte, Bool.false_eq_true, and_true, true_and, and_false, false_and, not_true_eq_false, not_false_eq_true, eq_self, nI_add, nI_mul, nI_div, nI_irm, nI_subk, inb_ok, ix_ok, nI_lt_t, nI_lt_f, nI_le_t, nI_le_f, nI_eq_t, nI_eq_f, nI_z, ifb, ifbn, b01_bI, b01_n, Nat.reduceEqDiff, nl_l, nl_n, nl_i, nl_r, Bool.true_eq_false, reduceIte, if_true, if_false, ok0_0, ok0_1, ok0_2, ok0_3, ok0_4, ok0_5, ok0_6, ok0_7, ok0_8, ok0_9, ok0_10, ok0_11, ok0_12, ok0_13, ok0_14, ok0_15, ok0_16, ok0_17, ok0_18, ok0_19, ok0_20, ok0_21, ok0_22, ok0_23, ok0_24, ok0_25, ok0_26, ok0_27, ok0_28, ok0_29, ok0_30, ok0_31, ok0_32, ok0_33, ok0_34, ok0_35, ok0_36, ok0_37, ok0_38, ok0_39, ok0_40, ok0_41, ok0_42, ok0_43, ok0_44, ok0_45, ok0_46, ok0_47, ok0_48, ok0_49, ok0_50, ok0_51, ok0_52, ok0_53, ok0_54, ok1_141, ok2_55, ok2_56, ok2_57, ok2_58, ok2_59, ok2_60, ok2_61, ok2_62, ok2_63, ok2_64, ok2_65, ok2_66, ok2_67, ok2_68, ok2_69, ok2_70, ok2_71, ok2_72, ok2_73, ok2_74, ok2_75, ok2_76, ok2_77, ok2_78, ok2_79, ok2_80, ok2_81, ok2_82, ok2_83, ok2_84, ok2_85, ok2_86, ok2_87, ok2_88, ok2_89, ok2_90, ok2_91, ok2_92, ok2_93, ok2_94, ok2_95, ok2_96, ok2_97, ok2_98, ok2_99, ok2_100, ok2_101, ok2_102, ok2_103, ok2_104, ok2_105, ok2_106, ok2_107, ok2_108, ok2_109, ok2_110, ok2_111, ok2_112, ok2_113, ok2_114, ok2_115, ok2_116, ok2_117, ok2_118, ok2_119, ok2_120, ok2_121, ok2_122, ok2_123, ok2_124, ok2_125, ok2_126, ok2_127, ok2_128, ok2_129, ok2_130, ok2_131, ok2_132, ok2_133, ok2_134, ok2_135, ok2_136, ok2_137, ok3_171, ok3_172, ok3_173, ok3_174, ok3_175, ok3_176, ok4_171, ok4_172, ok4_173, ok4_174, ok4_175, ok4_176, ok4_177, ok4_178, ok5_171, ok5_172, ok5_173, ok5_174, ok5_175, ok5_176, ok5_177, ok5_178, ok5_179, ok7_142, ok7_143, ok7_144, ok7_145, ok7_146, ok7_147, ok7_148, ok7_149, ok7_152, ok7_153, ok7_154, ok8_142, ok8_143, ok8_144, ok8_145, ok8_146, ok8_147, ok8_148, ok8_149, ok8_152, ok8_153, ok8_154, ok8_155, ok9_142, ok9_143, ok9_144, ok9_145, ok9_146, ok9_147, ok9_148, ok9_149, ok9_152, ok9_153, ok9_154, ok9_155, ok9_180, ok10_142, ok10_143, ok10_144, ok10_145, ok10_146, ok10_147, ok10_148, ok10_149, ok10_150, ok10_151, ok11_142, ok11_143, ok11_144, ok11_145, ok11_146, ok11_147, ok11_148, ok11_149, ok11_152, ok11_153, ok11_154, ok11_155, ok11_156, ok11_157, ok13_158, ok13_159, ok13_160, ok13_161, ok13_162, ok13_163, ok13_164, ok13_165, ok13_166, ok13_167, ok13_168, ok13_169, ok13_170, ok16_138, ok16_139, ok16_140, ct_a, ct_a5, ct_b, ct_c, ct_d, ct_r50, ct_r51, ct_r52, ct_r53, ct_r54, xs_T, xsR_5, xsT_4, xsL_4, xsR_6, xsT_5, xsL_5, xsR_7, xsT_6, xsL_6, xsR_8, xsT_7, xsL_7, xsR_9, xsT_8, xsL_8, xsR_10, xsT_9, xsL_9, xsR_14, xsT_10, xsL_10, xsR_17, xsT_11, xsL_11, xsR_18, xsT_12, xsL_12, xsR_24, xsT_13, xsL_13, xsR_25, xsT_14, xsL_14, xsR_26, xsT_24, xsL_24, xsR_28, xsT_106, xsL_106, xsR_34, xsT_107, xsL_107, xsR_41, xsT_108, xsL_108, xsR_42, xsT_109, xsL_109, xsR_43, xsT_110, xsL_110, xsR_44, xsT_111, xsL_111, xsR_46, xsT_112, xsL_112, xsR_52, xsT_121, xsL_121, xsR_53, xsT_122, xsL_122, xsR_54, xsT_131, xsL_131, hX, hT6, hsz, n1]
      exact ⟨H2, rfl, hk⟩
theorem x_noteLiars {S : Nat → Bool} {N : Nat} {F : Nat → Nat} (hN : N < 1000) (hSl : ∀ v, 24 ≤ v → S v = false) (hL : LN N F G) (hD : DK s w et em rt rm G) (hS : SB s) (hd : 9 ≤ d) : ∃ G', cl d 117 [vr (some 3), vi (w3 S)] G = some (.inl none, G') ∧ Sx [9, 8] [49, 50, 51] G G' ∧ LN (N + (if pce s S = true then 1 else 0)) (fun v => F v + (if (pce s S && S v) = true then 1 else 0)) G' := by
  have hX := hD.1
  obtain ⟨H, a1, a2⟩ := x_isPeace (d := d - 1) (S := S) hD hS (by omega)
  have hDH := hD.sx a2 (by decide)
  have hXH := hDH.1
  have hLH := hL.sx a2 (by decide) (by decide)
  rw [en117]
  cases q : pce s S with
  | false =>
    rw [q] at a1
    simp (disch := omega) only [rX0_noteLiars_0, rX0_noteLiars_1, rX0_noteLiars_2, rX0_noteLiars_5, rX0_noteLiars_8, psh_some, psh_none, bnd_r1, bnd_r0, b01_0, b01_1, lg_lt, lg_eq, lg_gt, lg_ge, lg_le, reduceIte, Bool.false_eq_true, and_true, true_and, and_false, false_and, not_true_eq_false, not_false_eq_true, eq_self, nI_add, nI_mul, nI_div, nI_irm, nI_subk, inb_ok, ix_ok, nI_lt_t, nI_lt_f, nI_le_t, nI_le_f, nI_eq_t, nI_eq_f, nI_z, ifb, ifbn, b01_bI, b01_n, Nat.reduceEqDiff, nl_l, nl_n, nl_i, nl_r, Bool.true_eq_false, reduceIte, if_true, if_false, ok0_0, ok0_1, ok0_2, ok0_3, ok0_4, ok0_5, ok0_6, ok0_7, ok0_8, ok0_9, ok0_10, ok0_11, ok0_12, ok0_13, ok0_14, ok0_15, ok0_16, ok0_17, ok0_18, ok0_19, ok0_20, ok0_21, ok0_22, ok0_23, ok0_24, ok0_25, ok0_26, ok0_27, ok0_28, ok0_29, ok0_30, ok0_31, ok0_32, ok0_33, ok0_34, ok0_35, ok0_36, ok0_37, ok0_38, ok0_39, ok0_40, ok0_41, ok0_42, ok0_43, ok0_44, ok0_45, ok0_46, ok0_47, ok0_48, ok0_49, ok0_50, ok0_51, ok0_52, ok0_53, ok0_54, ok1_141, ok2_55, ok2_56, ok2_57, ok2_58, ok2_59, ok2_60, ok2_61, ok2_62, ok2_63, ok2_64, ok2_65, ok2_66, ok2_67, ok2_68, ok2_69, ok2_70, ok2_71, ok2_72, ok2_73, ok2_74, ok2_75, ok2_76, ok2_77, ok2_78, ok2_79, ok2_80, ok2_81, ok2_82, ok2_83, ok2_84, ok2_85, ok2_86, ok2_87, ok2_88, ok2_89, ok2_90, ok2_91, ok2_92, ok2_93, ok2_94, ok2_95, ok2_96, ok2_97, ok2_98, ok2_99, ok2_100, ok2_101, ok2_102, ok2_103, ok2_104, ok2_105, ok2_106, ok2_107, ok2_108, ok2_109, ok2_110, ok2_111, ok2_112, ok2_113, ok2_114, ok2_115, ok2_116, ok2_117, ok2_118, ok2_119, ok2_120, ok2_121, ok2_122, ok2_123, ok2_124, ok2_125, ok2_126, ok2_127, ok2_128, ok2_129, ok2_130, ok2_131, ok2_132, ok2_133, ok2_134, ok2_135, ok2_136, ok2_137, ok3_171, ok3_172, ok3_173, ok3_174, ok3_175, ok3_176, ok4_171, ok4_172, ok4_173, ok4_174, ok4_175, ok4_176, ok4_177, ok4_178, ok5_171, ok5_172, ok5_173, ok5_174, ok5_175, ok5_176, ok5_177, ok5_178, ok5_179, ok7_142, ok7_143, ok7_144, ok7_145, ok7_146, ok7_147, ok7_148, ok7_149, ok7_152, ok7_153, ok7_154, ok8_142, ok8_143, ok8_144, ok8_145, ok8_146, ok8_147, ok8_148, ok8_149, ok8_152, ok8_153, ok8_154, ok8_155, ok9_142, ok9_143, ok9_144, ok9_145, ok9_146, ok9_147, ok9_148, ok9_149, ok9_152, ok9_153, ok9_154, ok9_155, ok9_180, ok10_142, ok10_143, ok10_144, ok10_145, ok10_146, ok10_147, ok10_148, ok10_149, ok10_150, ok10_151, ok11_142, ok11_143, ok11_144, ok11_145, ok11_146, ok11_147, ok11_148, ok11_149, ok11_152, ok11_153, ok11_154, ok11_155, ok11_156, ok11_157, ok13_158, ok13_159, ok13_160, ok13_161, ok13_162, ok13_163, ok13_164, ok13_165, ok13_166, ok13_167, ok13_168, ok13_169, ok13_170, ok16_138, ok16_139, ok16_140, ct_a, ct_a5, ct_b, ct_c, ct_d, ct_r50, ct_r51, ct_r52, ct_r53, ct_r54, xs_T, xsR_5, xsT_4, xsL_4, xsR_6, xsT_5, xsL_5, xsR_7, xsT_6, xsL_6, xsR_8, xsT_7, xsL_7, xsR_9, xsT_8, xsL_8, xsR_10, xsT_9, xsL_9, xsR_14, xsT_10, xsL_10, xsR_17, xsT_11, xsL_11, xsR_18, xsT_12, xsL_12, xsR_24, xsT_13, xsL_13, xsR_25, xsT_14, xsL_14, xsR_26, xsT_24, xsL_24, xsR_28, xsT_106, xsL_106, xsR_34, xsT_107, xsL_107, xsR_41, xsT_108, xsL_108, xsR_42, xsT_109, xsL_109, xsR_43, xsT_110, xsL_110, xsR_44, xsT_111, xsL_111, xsR_46, xsT_112, xsL_112, xsR_52, xsT_121, xsL_121, xsR_53, xsT_122, xsL_122, xsR_54, xsT_131, xsL_131, hX, a1]
    refine ⟨H, rfl, a2.mono (fun _ h => h) (fun _ h => absurd h List.not_mem_nil), ?_⟩
    simpa using hLH
  | true =>
    rw [q] at a1
    obtain ⟨l1, l2, l3, l4, l5⟩ := hLH
    have hfin : ∀ v, v = w3 (fun v => decide (F v + (if (true && S v) = true then 1 else 0) = N + 1)) → ∃ G', (some (.inl none, sI (sI (sI H 3 50 v) 3 51 (w3 (fun v => decide (0 < F v)) ||| w3 S)) 3 49 (nI (N + 1))) : Option (AO × AH)) = some (.inl none, G') ∧ Sx [9, 8] [49, 50, 51] G G' ∧ LN (N + (if true = true then 1 else 0)) (fun v => F v + (if (true && S v) = true then 1 else 0)) G' := by
      intro v hv
      refine ⟨_, rfl, (a2.mono (fun _ h => h) (fun _ h => absurd h List.not_mem_nil)).trans ((Sx.sI (Or.inr ⟨rfl, by decide⟩)).trans ((Sx.sI (Or.inr ⟨rfl, by decide⟩)).trans (Sx.sI (Or.inr ⟨rfl, by decide⟩)))), ?_, ?_, ?_, fun v => ?_, fun v hv => ?_⟩
      · rw [hI_sI, if_pos ⟨rfl, rfl⟩, if_pos rfl]
      · rw [hI_sI, if_neg (by decide), hI_sI, if_neg (by decide), hI_sI, if_pos ⟨rfl, rfl⟩, hv]
        refine w3_congr fun c _ => ?_
        simp
      · rw [hI_sI, if_neg (by decide), hI_sI, if_pos ⟨rfl, rfl⟩, w3_or]
        refine w3_congr fun c _ => ?_
        cases z : S c with
        | false => simp [z]
        | true => simp [z]
      · have := l4 v
        dsimp only
        rw [if_pos rfl]
        split <;> omega
      · dsimp only
        rw [l5 v hv, hSl v hv]; rfl
    by_cases z : N = 0
    · subst z
      have hF : ∀ v, F v = 0 := fun v => by have := l4 v; omega
      have := hfin (w3 S) (w3_congr fun c _ => by rw [hF c]; cases S c <;> rfl)
      simp (disch := omega) only [rX0_noteLiars_0, rX0_noteLiars_1, rX0_noteLiars_2, rX0_noteLiars_5, rX0_noteLiars_8, rX0_noteLiars_9, rX0_noteLiars_10, rX0_noteLiars_11, rX0_noteLiars_14, rX0_noteLiars_17, rX0_noteLiars_18, rX0_noteLiars_21, rX0_noteLiars_22, rX0_noteLiars_25, rX0_noteLiars_26, rX0_noteLiars_27, rX0_noteLiars_30, rX0_noteLiars_31, rX0_noteLiars_32, rX0_noteLiars_35, rX0_noteLiars_36, rX0_noteLiars_37, rX0_noteLiars_40, rX0_noteLiars_41, rX0_noteLiars_42, rX0_noteLiars_45, rX0_noteLiars_46, rX0_noteLiars_47, rX0_noteLiars_50, psh_some, psh_none, bnd_r1, bnd_r0, b01_0, b01_1, lg_lt, lg_eq, lg_gt, lg_ge, lg_le, reduceIte, Bool.false_eq_true, and_true, true_and, and_false, false_and, not_true_eq_false, not_false_eq_true, eq_self, nI_add, nI_mul, nI_div, nI_irm, nI_subk, inb_ok, ix_ok, nI_lt_t, nI_lt_f, nI_le_t, nI_le_f, nI_eq_t, nI_eq_f, nI_z, ifb, ifbn, b01_bI, b01_n, Nat.reduceEqDiff, nl_l, nl_n, nl_i, nl_r, Bool.true_eq_false, reduceIte, if_true, if_false, ok0_0, ok0_1, ok0_2, ok0_3, ok0_4, ok0_5, ok0_6, ok0_7, ok0_8, ok0_9, ok0_10, ok0_11, ok0_12, ok0_13, ok0_14, ok0_15, ok0_16, ok0_17, ok0_18, ok0_19, ok0_20, ok0_21, ok0_22, ok0_23, ok0_24, ok0_25, ok0_26, ok0_27, ok0_28, ok0_29, ok0_30, ok0_31, ok0_32, ok0_33, ok0_34, ok0_35, ok0_36, ok0_37, ok0_38, ok0_39, ok0_40, ok0_41, ok0_42, ok0_43, ok0_44, ok0_45, ok0_46, ok0_47, ok0_48, ok0_49, ok0_50, ok0_51, ok0_52, ok0_53, ok0_54, ok1_141, ok2_55, ok2_56, ok2_57, ok2_58, ok2_59, ok2_60, ok2_61, ok2_62, ok2_63, ok2_64, ok2_65, ok2_66, ok2_67, ok2_68, ok2_69, ok2_70, ok2_71, ok2_72, ok2_73, ok2_74, ok2_75, ok2_76, ok2_77, ok2_78, ok2_79, ok2_80, ok2_81, ok2_82, ok2_83, ok2_84, ok2_85, ok2_86, ok2_87, ok2_88, ok2_89, ok2_90, ok2_91, ok2_92, ok2_93, ok2_94, ok2_95, ok2_96, ok2_97, ok2_98, ok2_99, ok2_100, ok2_101, ok2_102, ok2_103, ok2_104, ok2_105, ok2_106, ok2_107, ok2_108, ok2_109, ok2_110, ok2_111, ok2_112, ok2_113, ok2_114, ok2_115, ok2_116, ok2_117, ok2_118, ok2_119, ok2_120, ok2_121, ok2_122, ok2_123, ok2_124, ok2_125, ok2_126, ok2_127, ok2_128, ok2_129, ok2_130, ok2_131, ok2_132, ok2_133, ok2_134, ok2_135, ok2_136, ok2_137, ok3_171, ok3_172, ok3_173, ok3_174, ok3_175, ok3_176, ok4_171, ok4_172, ok4_173, ok4_174, ok4_175, ok4_176, ok4_177, ok4_178, ok5_171, ok5_172, ok5_173, ok5_174, ok5_175, ok5_176, ok5_177, ok5_178, ok5_179, ok7_142, ok7_143, ok7_144, ok7_145, ok7_146, ok7_147, ok7_148, ok7_149, ok7_152, ok7_153, ok7_154, ok8_142, ok8_143, ok8_144, ok8_145, ok8_146, ok8_147, ok8_148, ok8_149, ok8_152, ok8_153, ok8_154, ok8_155, ok9_142, ok9_143, ok9_144, ok9_145, ok9_146, ok9_147, ok9_148, ok9_149, ok9_152, ok9_153, ok9_154, ok9_155, ok9_180, ok10_142, ok10_143, ok10_144, ok10_145, ok10_146, ok10_147, ok10_148, ok10_149, ok10_150, ok10_151, ok11_142, ok11_143, ok11_144, ok11_145, ok11_146, ok11_147, ok11_148, ok11_149, ok11_152, ok11_153, ok11_154, ok11_155, ok11_156, ok11_157, ok13_158, ok13_159, ok13_160, ok13_161, ok13_162, ok13_163, ok13_164, ok13_165, ok13_166, ok13_167, ok13_168, ok13_169, ok13_170, ok16_138, ok16_139, ok16_140, ct_a, ct_a5, ct_b, ct_c, ct_d, ct_r50, ct_r51, ct_r52, ct_r53, ct_r54, xs_T, xsR_5, xsT_4, xsL_4, xsR_6, xsT_5, xsL_5, xsR_7, xsT_6, xsL_6, xsR_8, xsT_7, xsL_7, xsR_9, xsT_8, xsL_8, xsR_10, xsT_9, xsL_9, xsR_14, xsT_10, xsL_10, xsR_17, xsT_11, xsL_11, xsR_18, xsT_12, xsL_12, xsR_24, xsT_13, xsL_13, xsR_25, xsT_14, xsL_14, xsR_26, xsT_24, xsL_24, xsR_28, xsT_106, xsL_106, xsR_34, xsT_107, xsL_107, xsR_41, xsT_108, xsL_108, xsR_42, xsT_109, xsL_109, xsR_43, xsT_110, xsL_110, xsR_44, xsT_111, xsL_111, xsR_46, xsT_112, xsL_112, xsR_52, xsT_121, xsL_121, xsR_53, xsT_122, xsL_122, xsR_54, xsT_131, xsL_131, hX, hXH, XS_sI, a1, l1, l3, hI_sI, hJ_sI, hR_sI, hT_sI, hL_sI, hN_sI, hC_sI, hS_sI, hI_sJ, hJ_sJ, hR_sJ, hT_sJ, hL_sJ, hN_sJ, hC_sJ, hS_sJ, hI_sR, hJ_sR, hR_sR, hT_sR, hL_sR, hN_sR, hC_sR, hS_sR, hI_mkx, hJ_mkx, hR_mkx, hT_mkx, hL_mkx, hN_mkx, hC_mkx, hS_mkx, hI_cpI, hJ_cpI, hR_cpI, hT_cpI, hL_cpI, hN_cpI, hC_cpI, hS_cpI, hI_cpJ, hJ_cpJ, hR_cpJ, hT_cpJ, hL_cpJ, hN_cpJ, hC_cpJ, hS_cpJ, hI_cpR, hJ_cpR, hR_cpR, hT_cpR, hL_cpR, hN_cpR, hC_cpR, hS_cpR, nl_i, nl_r, nl_l, nl_n, hI_bmp, hJ_bmp, hR_bmp, hT_bmp, hL_bmp, hN_bmp, hC_bmp, hS_bmp]
      exact this
    · have := hfin (w3 (fun v => decide (0 < N) && decide (F v = N)) &&& w3 S) (by
        rw [w3_and]
        refine w3_congr fun c _ => ?_
        have h1 := l4 c
        rw [decide_eq_true (show 0 < N by omega), Bool.true_and]
        cases y : S c with
        | false =>
          rw [Bool.and_false]
          exact (decide_eq_false (by simp; omega)).symm
        | true =>
          rw [Bool.and_true]
          exact decide_eq_decide.mpr (by simp))
      simp (disch := omega) only [rX0_noteLiars_0, rX0_noteLiars_1, rX0_noteLiars_2, rX0_noteLiars_5, rX0_noteLiars_8, rX0_noteLiars_9, rX0_noteLiars_10, rX0_noteLiars_11, rX0_noteLiars_14, rX0_noteLiars_17, rX0_noteLiars_18, rX0_noteLiars_21, rX0_noteLiars_22, rX0_noteLiars_25, rX0_noteLiars_26, rX0_noteLiars_27, rX0_noteLiars_30, rX0_noteLiars_31, rX0_noteLiars_32, rX0_noteLiars_35, rX0_noteLiars_36, rX0_noteLiars_37, rX0_noteLiars_40, rX0_noteLiars_41, rX0_noteLiars_42, rX0_noteLiars_45, rX0_noteLiars_46, rX0_noteLiars_47, rX0_noteLiars_50, psh_some, psh_none, bnd_r1, bnd_r0, b01_0, b01_1, lg_lt, lg_eq, lg_gt, lg_ge, lg_le, reduceIte, Bool.false_eq_true, and_true, true_and, and_false, false_and, not_true_eq_false, not_false_eq_true, eq_self, nI_add, nI_mul, nI_div, nI_irm, nI_subk, inb_ok, ix_ok, nI_lt_t, nI_lt_f, nI_le_t, nI_le_f, nI_eq_t, nI_eq_f, nI_z, ifb, ifbn, b01_bI, b01_n, Nat.reduceEqDiff, nl_l, nl_n, nl_i, nl_r, Bool.true_eq_false, reduceIte, if_true, if_false, ok0_0, ok0_1, ok0_2, ok0_3, ok0_4, ok0_5, ok0_6, ok0_7, ok0_8, ok0_9, ok0_10, ok0_11, ok0_12, ok0_13, ok0_14, ok0_15, ok0_16, ok0_17, ok0_18, ok0_19, ok0_20, ok0_21, ok0_22, ok0_23, ok0_24, ok0_25, ok0_26, ok0_27, ok0_28, ok0_29, ok0_30, ok0_31, ok0_32, ok0_33, ok0_34, ok0_35, ok0_36, ok0_37, ok0_38, ok0_39, ok0_40, ok0_41, ok0_42, ok0_43, ok0_44, ok0_45, ok0_46, ok0_47, ok0_48, ok0_49, ok0_50, ok0_51, ok0_52, ok0_53, ok0_54, ok1_141, ok2_55, ok2_56, ok2_57, ok2_58, ok2_59, ok2_60, ok2_61, ok2_62, ok2_63, ok2_64, ok2_65, ok2_66, ok2_67, ok2_68, ok2_69, ok2_70, ok2_71, ok2_72, ok2_73, ok2_74, ok2_75, ok2_76, ok2_77, ok2_78, ok2_79, ok2_80, ok2_81, ok2_82, ok2_83, ok2_84, ok2_85, ok2_86, ok2_87, ok2_88, ok2_89, ok2_90, ok2_91, ok2_92, ok2_93, ok2_94, ok2_95, ok2_96, ok2_97, ok2_98, ok2_99, ok2_100, ok2_101, ok2_102, ok2_103, ok2_104, ok2_105, ok2_106, ok2_107, ok2_108, ok2_109, ok2_110, ok2_111, ok2_112, ok2_113, ok2_114, ok2_115, ok2_116, ok2_117, ok2_118, ok2_119, ok2_120, ok2_121, ok2_122, ok2_123, ok2_124, ok2_125, ok2_126, ok2_127, ok2_128, ok2_129, ok2_130, ok2_131, ok2_132, ok2_133, ok2_134, ok2_135, ok2_136, ok2_137, ok3_171, ok3_172, ok3_173, ok3_174, ok3_175, ok3_176, ok4_171, ok4_172, ok4_173, ok4_174, ok4_175, ok4_176, ok4_177, ok4_178, ok5_171, ok5_172, ok5_173, ok5_174, ok5_175, ok5_176, ok5_177, ok5_178, ok5_179, ok7_142, ok7_143, ok7_144, ok7_145, ok7_146, ok7_147, ok7_148, ok7_149, ok7_152, ok7_153, ok7_154, ok8_142, ok8_143, ok8_144, ok8_145, ok8_146, ok8_147, ok8_148, ok8_149, ok8_152, ok8_153, ok8_154, ok8_155, ok9_142, ok9_143, ok9_144, ok9_145, ok9_146, ok9_147, ok9_148, ok9_149, ok9_152, ok9_153, ok9_154, ok9_155, ok9_180, ok10_142, ok10_143, ok10_144, ok10_145, ok10_146, ok10_147, ok10_148, ok10_149, ok10_150, ok10_151, ok11_142, ok11_143, ok11_144, ok11_145, ok11_146, ok11_147, ok11_148, ok11_149, ok11_152, ok11_153, ok11_154, ok11_155, ok11_156, ok11_157, ok13_158, ok13_159, ok13_160, ok13_161, ok13_162, ok13_163, ok13_164, ok13_165, ok13_166, ok13_167, ok13_168, ok13_169, ok13_170, ok16_138, ok16_139, ok16_140, ct_a, ct_a5, ct_b, ct_c, ct_d, ct_r50, ct_r51, ct_r52, ct_r53, ct_r54, xs_T, xsR_5, xsT_4, xsL_4, xsR_6, xsT_5, xsL_5, xsR_7, xsT_6, xsL_6, xsR_8, xsT_7, xsL_7, xsR_9, xsT_8, xsL_8, xsR_10, xsT_9, xsL_9, xsR_14, xsT_10, xsL_10, xsR_17, xsT_11, xsL_11, xsR_18, xsT_12, xsL_12, xsR_24, xsT_13, xsL_13, xsR_25, xsT_14, xsL_14, xsR_26, xsT_24, xsL_24, xsR_28, xsT_106, xsL_106, xsR_34, xsT_107, xsL_107, xsR_41, xsT_108, xsL_108, xsR_42, xsT_109, xsL_109, xsR_43, xsT_110, xsL_110, xsR_44, xsT_111, xsL_111, xsR_46, xsT_112, xsL_112, xsR_52, xsT_121, xsL_121, xsR_53, xsT_122, xsL_122, xsR_54, xsT_131, xsL_131, hX, hXH, XS_sI, a1, l1, l2, l3, hI_sI, hJ_sI, hR_sI, hT_sI, hL_sI, hN_sI, hC_sI, hS_sI, hI_sJ, hJ_sJ, hR_sJ, hT_sJ, hL_sJ, hN_sJ, hC_sJ, hS_sJ, hI_sR, hJ_sR, hR_sR, hT_sR, hL_sR, hN_sR, hC_sR, hS_sR, hI_mkx, hJ_mkx, hR_mkx, hT_mkx, hL_mkx, hN_mkx, hC_mkx, hS_mkx, hI_cpI, hJ_cpI, hR_cpI, hT_cpI, hL_cpI, hN_cpI, hC_cpI, hS_cpI, hI_cpJ, hJ_cpJ, hR_cpJ, hT_cpJ, hL_cpJ, hN_cpJ, hC_cpJ, hS_cpJ, hI_cpR, hJ_cpR, hR_cpR, hT_cpR, hL_cpR, hN_cpR, hC_cpR, hS_cpR, nl_i, nl_r, nl_l, nl_n, hI_bmp, hJ_bmp, hR_bmp, hT_bmp, hL_bmp, hN_bmp, hC_bmp, hS_bmp]
      exact this
theorem pce_0 (hS : SB s) : pce s (fun _ => false) = quiet s 1000 1000 := by
  have h0 := hS.1
  unfold pce quiet
  rw [quarU_congr fun m hm => ?_]
  have := hS.2.2.2.2.2.1 m hm
  rw [decide_eq_true (show s 10 m ≠ 1000 by omega), decide_eq_true (show s 11 m ≠ 1000 by omega)]
  cases onU s m <;> rfl
theorem pce_1 (hS : SB s) {t : Nat} : pce s (fun v => v == t) = quiet s t 1000 := by
  have h0 := hS.1
  unfold pce quiet
  rw [quarU_congr fun m hm => ?_]
  have := hS.2.2.2.2.2.1 m hm
  rw [decide_eq_true (show s 10 m ≠ 1000 by omega), decide_eq_true (show s 11 m ≠ 1000 by omega)]
  by_cases e1 : s 10 m = t <;> by_cases e2 : s 11 m = t <;> simp [e1, e2]
theorem pce_2 (hS : SB s) {t u : Nat} : pce s (fun v => v == t || v == u) = quiet s t u := by
  unfold pce quiet
  rw [quarU_congr fun m hm => ?_]
  by_cases e1 : s 10 m = t <;> by_cases e2 : s 11 m = t <;> by_cases e3 : s 10 m = u <;> by_cases e4 : s 11 m = u <;> simp [e1, e2, e3, e4]
theorem n2r_no {t : Nat} (h : mayL s t = false) : ∀ u, n2r s t u = 0
  | 0 => rfl
  | u + 1 => by unfold n2r; rw [n2r_no h u, if_neg (by unfold lie2; rw [h]; simp)]
theorem n2r_leX {t : Nat} : ∀ u, n2r s t u ≤ u
  | 0 => Nat.le_refl _
  | u + 1 => by have := n2r_leX (t := t) u; unfold n2r; split <;> omega
theorem n2_leX {n : Nat} : ∀ t, n2 s n t ≤ t * n
  | 0 => Nat.zero_le _
  | t + 1 => by
    have h1 := n2_leX (n := n) t
    have h2 := n2r_leX (s := s) (t := t) n
    unfold n2
    rw [Nat.add_mul]
    omega
/-- of the pairs up to (t, u): those with v -/
noncomputable def f2 (s : SGT) (t u v : Nat) : Nat := n2of s (s 0 2) v t + (if t = v then n2r s t u else if t < v ∧ v < u ∧ lie2 s t v = true then 1 else 0)
theorem f2_0 {t v : Nat} : f2 s t 0 v = n2of s (s 0 2) v t := by
  unfold f2
  split
  · rfl
  · rw [if_neg (by omega)]; rfl
theorem f2_n {t v : Nat} : f2 s t (s 0 2) v = n2of s (s 0 2) v (t + 1) := rfl
theorem f2_low {t v : Nat} : f2 s t (t + 1) v = f2 s t 0 v := by
  have hr : ∀ u, u ≤ t + 1 → n2r s t u = 0 := by
    intro u
    induction u with
    | zero => exact fun _ => rfl
    | succ u ih => intro hu; unfold n2r; rw [ih (by omega), if_neg (by omega)]
  unfold f2
  split
  · rw [hr _ (Nat.le_refl _)]; rfl
  · rw [if_neg (by omega), if_neg (by omega)]
theorem n2r_low {t : Nat} : ∀ u, u ≤ t + 1 → n2r s t u = 0
  | 0, _ => rfl
  | u + 1, hu => by unfold n2r; rw [n2r_low u (by omega), if_neg (by omega)]
theorem f2_s {t u v : Nat} (h : t < u) : f2 s t (u + 1) v = f2 s t u v + (if lie2 s t u = true ∧ (v = t ∨ v = u) then 1 else 0) := by
  unfold f2
  by_cases e : t = v
  · rw [if_pos e, if_pos e]
    show n2of s (s 0 2) v t + (n2r s t u + (if t < u ∧ lie2 s t u = true then 1 else 0)) = _
    by_cases z : lie2 s t u = true
    · rw [if_pos ⟨h, z⟩, if_pos ⟨z, Or.inl e.symm⟩]; omega
    · rw [if_neg (fun y => z y.2), if_neg (fun y => z y.1)]; omega
  · rw [if_neg e, if_neg e]
    by_cases e2 : v = u
    · subst e2
      rw [if_neg (show ¬ (t < v ∧ v < v ∧ lie2 s t v = true) by omega)]
      by_cases z : lie2 s t v = true
      · rw [if_pos ⟨h, by omega, z⟩, if_pos ⟨z, Or.inr rfl⟩]
      · rw [if_neg (fun y => z y.2.2), if_neg (fun y => z y.1)]
    · rw [if_neg (show ¬ (lie2 s t u = true ∧ (v = t ∨ v = u)) from fun y => by rcases y.2 with y | y; exact e y.symm; exact e2 y)]
      by_cases z : t < v ∧ v < u ∧ lie2 s t v = true
      · rw [if_pos z, if_pos ⟨z.1, by omega, z.2.2⟩]
      · rw [if_neg z, if_neg (fun y => z ⟨y.1, by omega, y.2.2⟩)]
theorem LN.eq {N N' : Nat} {F F' : Nat → Nat} (h : LN N F G) (h1 : N = N') (h2 : ∀ v, F v = F' v) : LN N' F' G := by
  have : F = F' := funext h2
  rw [← h1, ← this]
  exact h
end
