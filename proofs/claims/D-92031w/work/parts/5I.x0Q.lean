/-! the class: what a change leaves -/
def AgD (s s' : SGT) : Prop := AgF s s' ∧ s' 5 = s 5 ∧ s' 6 = s 6 ∧ s' 7 = s 7 ∧ s' 14 = s 14
def AgX (s s' : SGT) : Prop := s' 18 = s 18 ∧ s' 19 = s 19 ∧ s' 20 = s 20 ∧ s' 21 = s 21 ∧ s' 22 = s 22 ∧ s' 23 = s 23 ∧ s' 24 = s 24 ∧ s' 25 = s 25 ∧ ∀ k, img k s' = img k s
section
variable {d : Nat} {G G' : AH} {s s' : SGT} {h : Nat → Nat → Int64} {w w' : Int32} {et em : Nat} {rt rm : Nat → Nat} {l f : List Nat} {P : Nat → Bool}
theorem AgD.kptE (hA : AgF s s') : kpt s' = kpt s := by
  obtain ⟨h0, h1, h2, h3, h4, h9, h10, h11, h12, h13⟩ := hA
  funext m c e
  unfold kpt
  rw [h9, h12, h13, fre_agr (by rw [h0]) (by rw [h0]) h1]
theorem TH.ag {t r : Nat} (hA : AgD s s') (hh : TH s t r G) : TH s' t r G := by
  obtain ⟨⟨h0, h1, h2, h3, h4, h9, h10, h11, h12, h13⟩, h5, h6, h7, h14⟩ := hA
  unfold TH
  rw [h2, h3, h6, h7]
  exact hh
theorem ME.ag {m r : Nat} (hA : AgD s s') (hh : ME s m r G) : ME s' m r G := by
  obtain ⟨⟨h0, h1, h2, h3, h4, h9, h10, h11, h12, h13⟩, h5, h6, h7, h14⟩ := hA
  unfold ME
  rw [h9, h10, h11, h12, h13]
  exact hh
/-- the desk's own words change, not the things' nor the measures' -/
theorem DK.ch (hD : DK s w et em rt rm G) (hA : AgD s s') (k : Sx l f G G') (hl : ∀ a ∈ l, a < 136 ∧ a ≠ 5 ∧ a ≠ 6) (hR : CR s' w' G') : DK s' w' et em rt rm G' := by
  obtain ⟨b1, b2, b3, ⟨b4, b5⟩, ⟨b6, b7⟩, b8, b9⟩ := hD
  have hA2 := hA
  obtain ⟨⟨h0, h1, h2, h3, h4, h9, h10, h11, h12, h13⟩, h5, h6, h7, h14⟩ := hA
  have hX := k.xs b1
  obtain ⟨⟨k1, k2, k3, k4, k5, k6⟩, k7, k8⟩ := k
  have hb : ∀ a, (184 ≤ a ∨ a = 5 ∨ a = 6) → (∀ i, hI G' a i = hI G a i) ∧ ∀ i, hJ G' a i = hJ G a i := fun a ha => by
    have h1 : a ∉ l := fun q => by have := hl a q; omega
    exact ⟨fun i => k7 a i h1 (by omega), fun i => k8 a i h1 (by omega)⟩
  have hTL : ∀ a, a < hN G → hT G' a = hT G a ∧ hL G' a = hL G a := fun a _ => by rw [k4, k5]; exact ⟨rfl, rfl⟩
  have e2 : s' 0 2 = s 0 2 := by rw [h0]
  have e3 : s' 0 3 = s 0 3 := by rw [h0]
  refine ⟨hX, by omega, hR, ⟨by rw [e2]; exact b4.of (by omega) hTL ((hb _ (by omega)).1 _) (by rw [k6]) b2, fun t ht => ?_⟩, ⟨by rw [e3]; exact b6.of (by omega) hTL ((hb _ (by omega)).1 _) (by rw [k6]) b2, fun m hm => ?_⟩, b8, b9⟩
  · obtain ⟨c1, c2, c3, c4⟩ := b5 t (by rw [← e2]; exact ht)
    have hr := hb (rt t) (Or.inl c2.1)
    have hib : inbox s' t = inbox s t := by funext c; unfold inbox; rw [h4]
    exact ⟨by rw [k6]; exact c1, (c2.ag hA2).of (by omega) (by rw [k4]) (fun i _ => hr.1 i) (fun i => by rw [k6]), by rw [hib]; exact (hr.2 _).trans c3, by rw [h5]; exact (hr.1 _).trans c4⟩
  · obtain ⟨c1, c2, c3, c4⟩ := b7 m (by rw [← e3]; exact hm)
    have h184 := c2.1
    have hr := hb (rm m) (Or.inl h184)
    have hr1 := hb (rm m + 1) (Or.inl (by omega))
    have hr2 := hb (rm m + 2) (Or.inl (by omega))
    have hk := AgD.kptE (s := s) (s' := s') hA2.1
    refine ⟨by rw [k6]; exact c1, (c2.ag hA2).of (by omega) (fun j _ => by rw [k4, k5]; exact ⟨rfl, rfl⟩) (fun i _ => hr.1 i) (fun i => by rw [k6]), fun c hc => ?_, by rw [h14]; exact (hr.1 _).trans c4⟩
    rw [hk]
    exact ⟨(hr1.2 _).trans (c3 c hc).1, (hr2.2 _).trans (c3 c hc).2⟩
theorem CC.ag (hA : AgF s s') (h14 : s' 14 = s 14) (h5 : s' 5 = s 5) (hc : CC s G) : CC s' G := by
  obtain ⟨c1, c2, c3⟩ := hc
  have e0 := hA.1
  have l1 : lAll s' = lAll s := by funext t; unfold lAll; rw [e0, hA.lSetsE h14 h5, hA.lInE h14 h5]
  have l2 : lSome s' = lSome s := by funext t; unfold lSome; rw [e0, hA.lInE h14 h5]
  refine ⟨?_, ?_, ?_⟩
  · rw [onU_agr h14, hA.narE, e0]; exact c1
  · rw [onU_agr h14, hA.quarE, hA.inQE h14, e0]; exact c2
  · rw [hA.lManyE h14 h5, hA.lSetsE h14 h5, l1, l2]; exact c3
theorem CX.ag (hA : AgX s s') (hc : CX s h et em G) : CX s' h et em G := by
  obtain ⟨h18, h19, h20, h21, h22, h23, h24, h25, him⟩ := hA
  unfold CX SHT HLD IMS
  rw [h18, h19, h20, h21, h22, h23, h24, h25]
  simp only [him]
  exact hc
theorem agX_up {c i v : Nat} (h : c < 18 ∨ (26 ≤ c ∧ c < 32)) : AgX s (up s c i v) := ⟨up_ne (by omega), up_ne (by omega), up_ne (by omega), up_ne (by omega), up_ne (by omega), up_ne (by omega), up_ne (by omega), up_ne (by omega), fun k => img_up (by omega)⟩
theorem agD_up {c i v : Nat} (h : c = 8 ∨ 15 ≤ c) : AgD s (up s c i v) := ⟨agf_up (by omega), up_ne (by omega), up_ne (by omega), up_ne (by omega), up_ne (by omega)⟩
theorem xo_alone {b : Bool} (hS : SB s) : XO d 68 [vi (bI b)] s h w (vi (aAlone s b)) (up s 26 1 (bN b)) h w := fun G hI => by
  obtain ⟨et, em, rt, rm, hD, hC, hX⟩ := hI
  have h0 := hS.1
  have hXs := hD.1
  have hal := dk_alone hD
  have hbn : bN b ≤ 1 := by cases b <;> decide
  rw [en68, bI_bN]
  unfold aAlone
  by_cases e : s 26 1 = bN b
  · have hs : up s 26 1 (bN b) = s := by
      funext c i
      unfold up
      by_cases q : c = 26 ∧ i = 1
      · rw [if_pos q, q.1, q.2, e]
      · rw [if_neg q]
    rw [hs]
    refine ⟨G, ?_, (Sx.refl (l := []) (f := []) G).fx (fun _ h => absurd h List.not_mem_nil), ⟨et, em, rt, rm, hD, hC, hX⟩⟩
    simp (disch := omega) only [rX0_alone_0, rX0_alone_1, rX0_alone_4, rX0_alone_5, rX0_alone_8, rX0_alone_9, rX0_alone_10, rX0_alone_11, rX0_alone_12, rX0_alone_15, rX0_alone_16, psh_some, psh_none, bnd_r1, bnd_r0, b01_0, b01_1, lg_lt, lg_eq, lg_gt, lg_ge, lg_le, reduceIte, Bool.false_eq_true, and_true, true_and, and_false, false_and, not_true_eq_false, not_false_eq_true, eq_self, nI_add, nI_mul, nI_div, nI_irm, nI_subk, inb_ok, ix_ok, nI_lt_t, nI_lt_f, nI_le_t, nI_le_f, nI_eq_t, nI_eq_f, nI_z, ifb, ifbn, b01_bI, b01_n, Nat.reduceEqDiff, nl_l, nl_n, nl_i, nl_r, Bool.true_eq_false, reduceIte, if_true, if_false, ok0_0, ok0_1, ok0_2, ok0_3, ok0_4, ok0_5, ok0_6, ok0_7, ok0_8, ok0_9, ok0_10, ok0_11, ok0_12, ok0_13, ok0_14, ok0_15, ok0_16, ok0_17, ok0_18, ok0_19, ok0_20, ok0_21, ok0_22, ok0_23, ok0_24, ok0_25, ok0_26, ok0_27, ok0_28, ok0_29, ok0_30, ok0_31, ok0_32, ok0_33, ok0_34, ok0_35, ok0_36, ok0_37, ok0_38, ok0_39, ok0_40, ok0_41, ok0_42, ok0_43, ok0_44, ok0_45, ok0_46, ok0_47, ok0_48, ok0_49, ok0_50, ok0_51, ok0_52, ok0_53, ok0_54, ok1_141, ok2_55, ok2_56, ok2_57, ok2_58, ok2_59, ok2_60, ok2_61, ok2_62, ok2_63, ok2_64, ok2_65, ok2_66, ok2_67, ok2_68, ok2_69, ok2_70, ok2_71, ok2_72, ok2_73, ok2_74, ok2_75, ok2_76, ok2_77, ok2_78, ok2_79, ok2_80, ok2_81, ok2_82, ok2_83, ok2_84, ok2_85, ok2_86, ok2_87, ok2_88, ok2_89, ok2_90, ok2_91, ok2_92, ok2_93, ok2_94, ok2_95, ok2_96, ok2_97, ok2_98, ok2_99, ok2_100, ok2_101, ok2_102, ok2_103, ok2_104, ok2_105, ok2_106, ok2_107, ok2_108, ok2_109, ok2_110, ok2_111, ok2_112, ok2_113, ok2_114, ok2_115, ok2_116, ok2_117, ok2_118, ok2_119, ok2_120, ok2_121, ok2_122, ok2_123, ok2_124, ok2_125, ok2_126, ok2_127, ok2_128, ok2_129, ok2_130, ok2_131, ok2_132, ok2_133, ok2_134, ok2_135, ok2_136, ok2_137, ok3_171, ok3_172, ok3_173, ok3_174, ok3_175, ok3_176, ok4_171, ok4_172, ok4_173, ok4_174, ok4_175, ok4_176, ok4_177, ok4_178, ok5_171, ok5_172, ok5_173, ok5_174, ok5_175, ok5_176, ok5_177, ok5_178, ok5_179, ok7_142, ok7_143, ok7_144, ok7_145, ok7_146, ok7_147, ok7_148, ok7_149, ok7_152, ok7_153, ok7_154, ok8_142, ok8_143, ok8_144, ok8_145, ok8_146, ok8_147, ok8_148, ok8_149, ok8_152, ok8_153, ok8_154, ok8_155, ok9_142, ok9_143, ok9_144, ok9_145, ok9_146, ok9_147, ok9_148, ok9_149, ok9_152, ok9_153, ok9_154, ok9_155, ok9_180, ok10_142, ok10_143, ok10_144, ok10_145, ok10_146, ok10_147, ok10_148, ok10_149, ok10_150, ok10_151, ok11_142, ok11_143, ok11_144, ok11_145, ok11_146, ok11_147, ok11_148, ok11_149, ok11_152, ok11_153, ok11_154, ok11_155, ok11_156, ok11_157, ok13_158, ok13_159, ok13_160, ok13_161, ok13_162, ok13_163, ok13_164, ok13_165, ok13_166, ok13_167, ok13_168, ok13_169, ok13_170, ok16_138, ok16_139, ok16_140, ct_a, ct_a5, ct_b, ct_c, ct_d, ct_r50, ct_r51, ct_r52, ct_r53, ct_r54, xs_T, xsR_5, xsT_4, xsL_4, xsR_6, xsT_5, xsL_5, xsR_7, xsT_6, xsL_6, xsR_8, xsT_7, xsL_7, xsR_9, xsT_8, xsL_8, xsR_10, xsT_9, xsL_9, xsR_14, xsT_10, xsL_10, xsR_17, xsT_11, xsL_11, xsR_18, xsT_12, xsL_12, xsR_24, xsT_13, xsL_13, xsR_25, xsT_14, xsL_14, xsR_26, xsT_24, xsL_24, xsR_28, xsT_106, xsL_106, xsR_34, xsT_107, xsL_107, xsR_41, xsT_108, xsL_108, xsR_42, xsT_109, xsL_109, xsR_43, xsT_110, xsL_110, xsR_44, xsT_111, xsL_111, xsR_46, xsT_112, xsL_112, xsR_52, xsT_121, xsL_121, xsR_53, xsT_122, xsL_122, xsR_54, xsT_131, xsL_131, hXs, hal]
    rw [if_pos e]
  · have k : Sx [] [16] G (sI G 3 16 (nI (bN b))) := Sx.sI (Or.inr ⟨rfl, by decide⟩)
    have hb01 : b01 (nI (bN b)) = true := by cases b <;> rfl
    refine ⟨sI G 3 16 (nI (bN b)), ?_, k.fx (fun _ h => absurd h List.not_mem_nil), ⟨et, em, rt, rm, ?_, ?_, ?_⟩⟩
    · simp (disch := omega) only [rX0_alone_0, rX0_alone_1, rX0_alone_4, rX0_alone_5, rX0_alone_8, rX0_alone_9, rX0_alone_10, rX0_alone_11, rX0_alone_12, rX0_alone_15, rX0_alone_16, psh_some, psh_none, bnd_r1, bnd_r0, b01_0, b01_1, lg_lt, lg_eq, lg_gt, lg_ge, lg_le, reduceIte, Bool.false_eq_true, and_true, true_and, and_false, false_and, not_true_eq_false, not_false_eq_true, eq_self, nI_add, nI_mul, nI_div, nI_irm, nI_subk, inb_ok, ix_ok, nI_lt_t, nI_lt_f, nI_le_t, nI_le_f, nI_eq_t, nI_eq_f, nI_z, ifb, ifbn, b01_bI, b01_n, Nat.reduceEqDiff, nl_l, nl_n, nl_i, nl_r, Bool.true_eq_false, reduceIte, if_true, if_false, ok0_0, ok0_1, ok0_2, ok0_3, ok0_4, ok0_5, ok0_6, ok0_7, ok0_8, ok0_9, ok0_10, ok0_11, ok0_12, ok0_13, ok0_14, ok0_15, ok0_16, ok0_17, ok0_18, ok0_19, ok0_20, ok0_21, ok0_22, ok0_23, ok0_24, ok0_25, ok0_26, ok0_27, ok0_28, ok0_29, ok0_30, ok0_31, ok0_32, ok0_33, ok0_34, ok0_35, ok0_36, ok0_37, ok0_38, ok0_39, ok0_40, ok0_41, ok0_42, ok0_43, ok0_44, ok0_45, ok0_46, ok0_47, ok0_48, ok0_49, ok0_50, ok0_51, ok0_52, ok0_53, ok0_54, ok1_141, ok2_55, ok2_56, ok2_57, ok2_58, ok2_59, ok2_60, ok2_61, ok2_62, ok2_63, ok2_64, ok2_65, ok2_66, ok2_67, ok2_68, ok2_69, ok2_70, ok2_71, ok2_72, ok2_73, ok2_74, ok2_75, ok2_76, ok2_77, ok2_78, ok2_79, ok2_80, ok2_81, ok2_82, ok2_83, ok2_84, ok2_85, ok2_86, ok2_87, ok2_88, ok2_89, ok2_90, ok2_91, ok2_92, ok2_93, ok2_94, ok2_95, ok2_96, ok2_97, ok2_98, ok2_99, ok2_100, ok2_101, ok2_102, ok2_103, ok2_104, ok2_105, ok2_106, ok2_107, ok2_108, ok2_109, ok2_110, ok2_111, ok2_112, ok2_113, ok2_114, ok2_115, ok2_116, ok2_117, ok2_118, ok2_119, ok2_120, ok2_121, ok2_122, ok2_123, ok2_124, ok2_125, ok2_126, ok2_127, ok2_128, ok2_129, ok2_130, ok2_131, ok2_132, ok2_133, ok2_134, ok2_135, ok2_136, ok2_137, ok3_171, ok3_172, ok3_173, ok3_174, ok3_175, ok3_176, ok4_171, ok4_172, ok4_173, ok4_174, ok4_175, ok4_176, ok4_177, ok4_178, ok5_171, ok5_172, ok5_173, ok5_174, ok5_175, ok5_176, ok5_177, ok5_178, ok5_179, ok7_142, ok7_143, ok7_144, ok7_145, ok7_146, ok7_147, ok7_148, ok7_149, ok7_152, ok7_153, ok7_154, ok8_142, ok8_143, ok8_144, ok8_145, ok8_146, ok8_147, ok8_148, ok8_149, ok8_152, ok8_153, ok8_154, ok8_155, ok9_142, ok9_143, ok9_144, ok9_145, ok9_146, ok9_147, ok9_148, ok9_149, ok9_152, ok9_153, ok9_154, ok9_155, ok9_180, ok10_142, ok10_143, ok10_144, ok10_145, ok10_146, ok10_147, ok10_148, ok10_149, ok10_150, ok10_151, ok11_142, ok11_143, ok11_144, ok11_145, ok11_146, ok11_147, ok11_148, ok11_149, ok11_152, ok11_153, ok11_154, ok11_155, ok11_156, ok11_157, ok13_158, ok13_159, ok13_160, ok13_161, ok13_162, ok13_163, ok13_164, ok13_165, ok13_166, ok13_167, ok13_168, ok13_169, ok13_170, ok16_138, ok16_139, ok16_140, ct_a, ct_a5, ct_b, ct_c, ct_d, ct_r50, ct_r51, ct_r52, ct_r53, ct_r54, xs_T, xsR_5, xsT_4, xsL_4, xsR_6, xsT_5, xsL_5, xsR_7, xsT_6, xsL_6, xsR_8, xsT_7, xsL_7, xsR_9, xsT_8, xsL_8, xsR_10, xsT_9, xsL_9, xsR_14, xsT_10, xsL_10, xsR_17, xsT_11, xsL_11, xsR_18, xsT_12, xsL_12, xsR_24, xsT_13, xsL_13, xsR_25, xsT_14, xsL_14, xsR_26, xsT_24, xsL_24, xsR_28, xsT_106, xsL_106, xsR_34, xsT_107, xsL_107, xsR_41, xsT_108, xsL_108, xsR_42, xsT_109, xsL_109, xsR_43, xsT_110, xsL_110, xsR_44, xsT_111, xsL_111, xsR_46, xsT_112, xsL_112, xsR_52, xsT_121, xsL_121, xsR_53, xsT_122, xsL_122, xsR_54, xsT_131, xsL_131, hXs, hal, hb01]
      rw [if_neg e]
    · obtain ⟨c1, c2, c3, c4, c5, c6, c7, c8, c9, c10⟩ := hD.2.2.1
      refine hD.ch (agD_up (by omega)) k (fun _ h => absurd h List.not_mem_nil) ?_
      unfold CR
      refine ⟨by rw [hI_sI, if_neg (by decide)]; exact c1, by rw [hI_sI, if_neg (by decide)]; exact c2, c3, by rw [hI_sI, if_pos ⟨rfl, rfl⟩]; rfl, by rw [hI_sI, if_neg (by decide)]; exact c5, by rw [hI_sI, if_neg (by decide)]; exact c6, by rw [hI_sI, if_neg (by decide)]; exact c7, by rw [hI_sI, if_neg (by decide)]; exact c8, fun t ht => by rw [hI_sI, if_neg (by omega)]; exact c9 t ht, fun j hj => ?_⟩
      rw [hI_sI, if_neg (by omega), hI_sI, if_neg (by omega), hI_sI, if_neg (by omega)]
      exact c10 j hj
    · exact CC.ag (agf_up (by omega)) (up_ne (by decide)) (up_ne (by decide)) (hC.sx k (by decide) (by decide))
    · exact CX.ag (agX_up (by omega)) (hX.sy hD.2.1 (dk_et hD) (dk_em hD) k.sy (fun _ h => absurd h List.not_mem_nil) List.not_mem_nil (by decide) ⟨hX.2.2.2.2.2.1, hX.2.2.2.2.2.2⟩)
end
