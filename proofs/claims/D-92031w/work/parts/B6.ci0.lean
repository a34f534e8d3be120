/-! both objects are made: the class has the first state -/
section
variable {c z : Nat} {V : Nat → Nat → Int32} {G H K : AH}
theorem ci_start (b : YB 136 c z V G H) (w1 : V 3 2 = nI 8) (w2 : V 3 3 = nI 8) (w3 : V 3 27 = -9) (w4 : ∀ i, V 107 i = -9) (w5 : ∀ a i, a ≠ 107 → ¬ (a = 3 ∧ (i = 2 ∨ i = 3 ∨ i = 27 ∨ i = 48)) → V a i = 0) (h1 : hT G 1 = 55 ∧ hL G 1 = 0) (hf : ∀ a, a < 136 → hT K a = hT H a ∧ hL K a = hL H a ∧ (∀ i, hI K a i = hI H a i) ∧ (∀ i, hJ K a i = hJ H a i) ∧ ∀ i, hR K a i = hR H a i) (hn : hN K = 184) (hM : MS K) : CI s0 h0' 0 K := by
  obtain ⟨b1, b2, b3, b4, b5, b6, b7, b8, b9, b10, b11, b12⟩ := b
  have hXS : XS K := by
    have t1 : ∀ q ∈ xsT, q.2.1 < 136 := by decide +kernel
    have t2 : ∀ q ∈ xsU, q.1 < 136 ∧ q.2.2.1 < 136 := by decide +kernel
    refine ⟨(hf 3 (by decide)).1.trans b2, fun q hq => ?_, fun q hq => ?_⟩
    · obtain ⟨v1, v2, v3⟩ := b4 q hq (t1 q hq)
      obtain ⟨o1, o2, -, -, -⟩ := hf q.2.1 (t1 q hq)
      exact ⟨((hf 3 (by decide)).2.2.2.2 _).trans v1, o1.trans v2, o2.trans v3⟩
    · obtain ⟨v1, v2, v3⟩ := b5 q hq (t2 q hq).2
      obtain ⟨o1, o2, -, -, -⟩ := hf q.2.2.1 (t2 q hq).2
      exact ⟨((hf q.1 (t2 q hq).1).2.2.2.2 _).trans v1, o1.trans v2, o2.trans v3⟩
  have hi : ∀ a i, 3 ≤ a → a < 136 → a ≠ 107 → hI K a i = V a i := fun a i g1 g2 g3 => ((hf a g2).2.2.1 i).trans (b6 a i g1 g2 (Or.inl g3))
  have h3 : ∀ i, i ≠ 2 → i ≠ 3 → i ≠ 27 → i ≠ 48 → hI K 3 i = 0 := fun i n1 n2 n3 n4 => by
    rw [hi 3 i (by decide) (by decide) (by decide)]
    exact w5 3 i (by decide) (by omega)
  have hc1 : hT K 1 = 55 ∧ hL K 1 = 0 := ⟨((hf 1 (by decide)).1.trans (b3 1 (by decide)).1).trans h1.1, ((hf 1 (by decide)).2.1.trans (b3 1 (by decide)).2.1).trans h1.2⟩
  have hl : ∀ p, p = 5 ∨ p = 6 → hT K p = 16 → LSt K p 0 1 := fun p hp ht => by
    refine ⟨ht, ?_, ?_, Nat.zero_le _, by rw [hc1.2]; decide, Or.inr ⟨rfl, hc1.1, hc1.2⟩, by omega, by omega, hc1.1, hc1.2⟩
    · rw [hi p 140 (by omega) (by omega) (by omega), w5 p 140 (by omega) (by omega)]
      rfl
    · rw [(hf p (by omega)).2.2.2.2]
      exact b10 p hp (by omega)
  have hr : ∀ a i, a = 121 ∨ (123 ≤ a ∧ a ≤ 130) ∨ (132 ≤ a ∧ a ≤ 135) → hR K a i = none := fun a i g => ((hf a (by omega)).2.2.2.2 i).trans (b9 a i g (by omega))
  have zz : ∀ c i, ¬ (c = 0 ∧ i ≤ 1) → ¬ (c = 8 ∨ c = 18) → s0 c i = 0 := fun c i g1 g2 => by
    unfold s0
    rw [if_neg g1, if_neg g2]
  refine ⟨1, 1, fun _ => 0, fun _ => 0, ⟨hXS, by omega, ?_, ⟨hl 5 (Or.inl rfl) (by simp (disch := omega) only [xs_T, xsR_5, xsT_4, xsL_4, xsR_6, xsT_5, xsL_5, xsR_7, xsT_6, xsL_6, xsR_8, xsT_7, xsL_7, xsR_9, xsT_8, xsL_8, xsR_10, xsT_9, xsL_9, xsR_14, xsT_10, xsL_10, xsR_17, xsT_11, xsL_11, xsR_18, xsT_12, xsL_12, xsR_24, xsT_13, xsL_13, xsR_25, xsT_14, xsL_14, xsR_26, xsT_24, xsL_24, xsR_28, xsT_106, xsL_106, xsR_34, xsT_107, xsL_107, xsR_41, xsT_108, xsL_108, xsR_42, xsT_109, xsL_109, xsR_43, xsT_110, xsL_110, xsR_44, xsT_111, xsL_111, xsR_46, xsT_112, xsL_112, xsR_52, xsT_121, xsL_121, xsR_53, xsT_122, xsL_122, xsR_54, xsT_131, xsL_131, hXS]), fun t ht => absurd ht (Nat.not_lt_zero _)⟩, ⟨hl 6 (Or.inr rfl) (by simp (disch := omega) only [xs_T, xsR_5, xsT_4, xsL_4, xsR_6, xsT_5, xsL_5, xsR_7, xsT_6, xsL_6, xsR_8, xsT_7, xsL_7, xsR_9, xsT_8, xsL_8, xsR_10, xsT_9, xsL_9, xsR_14, xsT_10, xsL_10, xsR_17, xsT_11, xsL_11, xsR_18, xsT_12, xsL_12, xsR_24, xsT_13, xsL_13, xsR_25, xsT_14, xsL_14, xsR_26, xsT_24, xsL_24, xsR_28, xsT_106, xsL_106, xsR_34, xsT_107, xsL_107, xsR_41, xsT_108, xsL_108, xsR_42, xsT_109, xsL_109, xsR_43, xsT_110, xsL_110, xsR_44, xsT_111, xsL_111, xsR_46, xsT_112, xsL_112, xsR_52, xsT_121, xsL_121, xsR_53, xsT_122, xsL_122, xsR_54, xsT_131, xsL_131, hXS]), fun t ht => absurd ht (Nat.not_lt_zero _)⟩, Or.inl rfl, Or.inl rfl⟩, ⟨Or.inl (h3 _ (by decide) (by decide) (by decide) (by decide)), Or.inl (h3 _ (by decide) (by decide) (by decide) (by decide)), Or.inl (h3 _ (by decide) (by decide) (by decide) (by decide))⟩, ?_⟩
  · refine ⟨by rw [hi 3 _ (by decide) (by decide) (by decide), w1]; rfl, by rw [hi 3 _ (by decide) (by decide) (by decide), w2]; rfl, ?_, h3 _ (by decide) (by decide) (by decide) (by decide), h3 _ (by decide) (by decide) (by decide) (by decide), h3 _ (by decide) (by decide) (by decide) (by decide), h3 _ (by decide) (by decide) (by decide) (by decide), h3 _ (by decide) (by decide) (by decide) (by decide), fun t ht => ?_, fun k hk => absurd hk (Nat.not_lt_zero _)⟩
    · rw [(hf 3 (by decide)).2.2.2.1, b8]
      refine (wd_0.symm.trans (wd_congr fun c hc => ?_))
      rw [zz 1 c (by omega) (by omega)]
      rfl
    · rw [(hf 107 (by decide)).2.2.1, b6 107 t (by decide) (by decide) (Or.inr ht), w4]
      rfl
  · refine ⟨⟨0, 0, 0, 0, by decide, by decide, by decide, by decide, h3 _ (by decide) (by decide) (by decide) (by decide), h3 _ (by decide) (by decide) (by decide) (by decide), h3 _ (by decide) (by decide) (by decide) (by decide), h3 _ (by decide) (by decide) (by decide) (by decide)⟩, by rw [hi 3 _ (by decide) (by decide) (by decide)]; exact w3, ⟨fun _ => 0, fun k hk => ⟨fun _ => hr _ _ (by omega), fun y => ?_⟩, fun j k _ _ _ y => ?_⟩, fun k hk => Or.inl ⟨rfl, hr _ _ (by omega)⟩, fun k hk => ⟨fun _ => hr _ _ (Or.inl rfl), fun y => ?_⟩, ?_, ?_⟩
    · rw [zz 23 k (by omega) (by omega)] at y; omega
    · rw [zz 23 j (by omega) (by omega)] at y; omega
    · rw [zz 25 k (by omega) (by omega)] at y; omega
    · right
      rw [hn, show 184 - 1 = 183 from rfl]
      simp (disch := omega) only [ms_T, msR_58, msT_137, msL_137, msR_60, msT_138, msL_138, msR_61, msT_139, msL_139, msR_62, msT_140, msL_140, msR_63, msT_141, msL_141, msR_64, msT_142, msL_142, msR_65, msT_143, msL_143, msR_66, msT_144, msL_144, msR_68, msT_145, msL_145, msR_69, msT_146, msL_146, msR_70, msT_147, msL_147, msR_71, msT_148, msL_148, msR_72, msT_149, msL_149, msR_73, msT_150, msL_150, msR_75, msT_151, msL_151, msR_76, msT_152, msL_152, msR_77, msT_153, msL_153, msR_79, msT_154, msL_154, msR_83, msT_155, msL_155, msR_84, msT_156, msL_156, msR_85, msT_157, msL_157, msR_86, msT_158, msL_158, msR_87, msT_159, msL_159, msR_88, msT_160, msL_160, msR_89, msT_161, msL_161, msR_91, msT_162, msL_162, msR_93, msT_163, msL_163, msR_94, msT_164, msL_164, msR_95, msT_165, msL_165, msR_99, msT_166, msL_166, msR_100, msT_167, msL_167, msR_102, msT_168, msL_168, msR_120, msT_169, msL_169, msR_121, msT_170, msL_170, msR_122, msT_171, msL_171, msR_125, msT_172, msL_172, msR_126, msT_173, msL_173, msR_127, msT_174, msL_174, msR_128, msT_175, msL_175, msR_129, msT_176, msL_176, msR_130, msT_177, msL_177, msR_131, msT_178, msL_178, msR_132, msT_179, msL_179, msR_134, msT_180, msL_180, msR_135, msT_181, msL_181, msR_136, msT_182, msL_182, msR_137, msT_183, msL_183, hM]
      decide
    · right
      rw [hn, show 184 - 2 = 182 from rfl]
      simp (disch := omega) only [ms_T, msR_58, msT_137, msL_137, msR_60, msT_138, msL_138, msR_61, msT_139, msL_139, msR_62, msT_140, msL_140, msR_63, msT_141, msL_141, msR_64, msT_142, msL_142, msR_65, msT_143, msL_143, msR_66, msT_144, msL_144, msR_68, msT_145, msL_145, msR_69, msT_146, msL_146, msR_70, msT_147, msL_147, msR_71, msT_148, msL_148, msR_72, msT_149, msL_149, msR_73, msT_150, msL_150, msR_75, msT_151, msL_151, msR_76, msT_152, msL_152, msR_77, msT_153, msL_153, msR_79, msT_154, msL_154, msR_83, msT_155, msL_155, msR_84, msT_156, msL_156, msR_85, msT_157, msL_157, msR_86, msT_158, msL_158, msR_87, msT_159, msL_159, msR_88, msT_160, msL_160, msR_89, msT_161, msL_161, msR_91, msT_162, msL_162, msR_93, msT_163, msL_163, msR_94, msT_164, msL_164, msR_95, msT_165, msL_165, msR_99, msT_166, msL_166, msR_100, msT_167, msL_167, msR_102, msT_168, msL_168, msR_120, msT_169, msL_169, msR_121, msT_170, msL_170, msR_122, msT_171, msL_171, msR_125, msT_172, msL_172, msR_126, msT_173, msL_173, msR_127, msT_174, msL_174, msR_128, msT_175, msL_175, msR_129, msT_176, msL_176, msR_130, msT_177, msL_177, msR_131, msT_178, msL_178, msR_132, msT_179, msL_179, msR_134, msT_180, msL_180, msR_135, msT_181, msL_181, msR_136, msT_182, msL_182, msR_137, msT_183, msL_183, hM]
      decide
end
