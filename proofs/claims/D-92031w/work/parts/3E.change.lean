/-! the state changes: what stays by it -/
def up (s : SGT) (f i v : Nat) : SGT := fun g j => if g = f ∧ j = i then v else s g j
theorem up_ne {s : SGT} {f i v g : Nat} (h : g ≠ f) : up s f i v g = s g := by
  funext j
  exact if_neg (fun q => h q.1)
theorem up_at {s : SGT} {f i v : Nat} : up s f i v f i = v := if_pos ⟨rfl, rfl⟩
theorem up_nj {s : SGT} {f i v j : Nat} (h : j ≠ i) : up s f i v f j = s f j := if_neg (fun q => h q.2)
theorem repT_inj : ∀ q ∈ repT, ∀ r ∈ repT, (q.1 = r.1 ↔ q.2.1 = r.2.1) ∧ (q.1 = r.1 → q.2.2.2 = r.2.2.2) := by decide
theorem repT_136 : ∀ q ∈ repT, ¬ q.2.1 = 136 := by decide
theorem repT_sc : ∀ q ∈ repT, ∀ r ∈ scT, ¬ q.1 = r.2.1 := by decide
theorem scT_inj : ∀ q ∈ scT, ∀ r ∈ scT, (q.1 = r.1 ↔ q.2.1 = r.2.1 ∧ q.2.2 = r.2.2) := by decide
theorem TR.arr {s : SGT} {G : AH} {f a n k i v : Nat} {x : Int32} (h : TR s G) (hq : (f, a, n, k) ∈ repT) (hx : x = rpv k v) : TR (up s f i v) (sI G a i x) := by
  subst hx
  refine ⟨fun q hq2 j hj => ?_, fun q hq2 => ?_⟩
  · obtain ⟨h1, h2⟩ := repT_inj q hq2 _ hq
    rw [hI_sI]
    unfold up
    by_cases e : q.2.1 = a
    · have e1 : q.1 = f := h1.mpr e
      have e2 : q.2.2.2 = k := h2 e1
      by_cases e3 : j = i
      · rw [if_pos ⟨e, e3⟩, if_pos ⟨e1, e3⟩, e2]
      · rw [if_neg (fun w => e3 w.2), if_neg (fun w => e3 w.2)]
        exact h.1 q hq2 j hj
    · rw [if_neg (fun w => e w.1), if_neg (fun w => e (h1.mp w.1))]
      exact h.1 q hq2 j hj
  · rw [hI_sI, if_neg (fun w => repT_136 _ hq w.1.symm)]
    unfold up
    rw [if_neg (fun w => repT_sc _ hq q hq2 w.1.symm)]
    exact h.2 q hq2
theorem TR.sca {s : SGT} {G : AH} {g c j v : Nat} (h : TR s G) (hq : (g, c, j) ∈ scT) : TR (up s c j v) (sI G 136 g (nI v)) := by
  refine ⟨fun q hq2 i hi => ?_, fun q hq2 => ?_⟩
  · rw [hI_sI, if_neg (fun w => repT_136 q hq2 w.1)]
    unfold up
    rw [if_neg (fun w => repT_sc q hq2 _ hq w.1)]
    exact h.1 q hq2 i hi
  · have h1 := scT_inj q hq2 _ hq
    rw [hI_sI]
    unfold up
    by_cases e : q.1 = g
    · rw [if_pos ⟨rfl, e⟩, if_pos (h1.mp e)]
    · rw [if_neg (fun w => e w.2), if_neg (fun w => e (h1.mpr w))]
      exact h.2 q hq2
theorem TR.off {s : SGT} {G : AH} {a i : Nat} {x : Int32} (h : TR s G) (ho : (repT.all (fun q => !(q.2.1 == a)) && (!(a == 136) || scT.all (fun q => !(q.1 == i)))) = true) : TR s (sI G a i x) := by
  rw [Bool.and_eq_true, List.all_eq_true] at ho
  refine TR.of h (fun q hq j _ => ?_) (fun q hq => ?_)
  · have := ho.1 q hq
    have : ¬ q.2.1 = a := by simpa using this
    rw [hI_sI, if_neg (fun w => this w.1)]
  · rw [hI_sI, if_neg]
    rintro ⟨w1, w2⟩
    subst w1
    have h2 := ho.2
    rw [Bool.or_eq_true, List.all_eq_true] at h2
    rcases h2 with h2 | h2
    · simp at h2
    · have := h2 q hq
      simp [w2] at this
/-! words that agree -/
section
variable {s s' : SGT}
theorem isC_agr (h0 : s' 0 0 = s 0 0) (h1 : s' 0 1 = s 0 1) : isC s' = isC s := by funext c; unfold isC; rw [h0, h1]
theorem fre_agr (h0 : s' 0 0 = s 0 0) (h1 : s' 0 1 = s 0 1) (h2 : s' 1 = s 1) : fre s' = fre s := by funext c; unfold fre; rw [isC_agr h0 h1, h2]
theorem fw_agr (h0 : s' 0 0 = s 0 0) (h1 : s' 0 1 = s 0 1) (h2 : s' 1 = s 1) {m : Nat} (h9 : s' 9 m = s 9 m) (h12 : s' 12 m = s 12 m) (h13 : s' 13 m = s 13 m) : fw s' m = fw s m := by
  funext c e
  unfold fw kpt
  rw [isC_agr h0 h1, fre_agr h0 h1 h2, h9, h12, h13]
/-- the field's and measures' words -/
def AgF (s s' : SGT) : Prop := s' 0 = s 0 ∧ s' 1 = s 1 ∧ s' 2 = s 2 ∧ s' 3 = s 3 ∧ s' 4 = s 4 ∧ s' 9 = s 9 ∧ s' 10 = s 10 ∧ s' 11 = s 11 ∧ s' 12 = s 12 ∧ s' 13 = s 13
theorem AgF.fwE (h : AgF s s') : fw s' = fw s := by
  obtain ⟨h0, h1, h2, h3, h4, h9, h10, h11, h12, h13⟩ := h
  funext m
  exact fw_agr (by rw [h0]) (by rw [h0]) h1 (by rw [h9]) (by rw [h12]) (by rw [h13])
theorem AgF.toldE (h : AgF s s') : told s' = told s := by
  obtain ⟨h0, h1, h2, h3, h4, h9, h10, h11, h12, h13⟩ := h
  funext t c
  unfold told inbox
  rw [fre_agr (by rw [h0]) (by rw [h0]) h1, h2, h3, h4]
theorem AgF.narE (h : AgF s s') (U : Nat → Bool) : nar s' U = nar s U := by
  have h1 := h.fwE
  have h2 := h.toldE
  obtain ⟨h0, -, -, -, -, -, h10, h11, -, -⟩ := h
  unfold nar
  rw [h1, h2, h0, h10, h11]
theorem AgF.quarE (h : AgF s s') : quar s' = quar s := by
  funext U
  unfold quar
  rw [h.narE, h.1]
theorem onU_agr (h : s' 14 = s 14) : onU s' = onU s := by funext m; unfold onU; rw [h]
theorem AgF.qUE (h : AgF s s') (h14 : s' 14 = s 14) : ∀ m, qU s' m = qU s m
  | 0 => onU_agr h14
  | m + 1 => by
    funext j
    unfold qU
    rw [h.qUE h14 m, h.quarE, onU_agr h14]
theorem AgF.inQE (h : AgF s s') (h14 : s' 14 = s 14) : inQ s' = inQ s := by
  funext m
  unfold inQ
  rw [h.qUE h14, h.quarE, onU_agr h14]
theorem AgF.qManyE (h : AgF s s') (h14 : s' 14 = s 14) : qMany s' = qMany s := by
  unfold qMany
  rw [h.inQE h14, h.quarE, onU_agr h14, h.1]
theorem AgF.quietE (h : AgF s s') (h14 : s' 14 = s 14) : quiet s' = quiet s := by
  funext a b
  unfold quiet
  rw [h.quarE, onU_agr h14, h.2.2.2.2.2.2.1, h.2.2.2.2.2.2.2.1]
theorem AgF.lie1E (h : AgF s s') (h14 : s' 14 = s 14) (h5 : s' 5 = s 5) : lie1 s' = lie1 s := by
  funext t
  unfold lie1 mayL
  rw [h.quietE h14, h5, h.2.2.1]
theorem AgF.lie2E (h : AgF s s') (h14 : s' 14 = s 14) (h5 : s' 5 = s 5) : lie2 s' = lie2 s := by
  funext t u
  unfold lie2 mayL
  rw [h.quietE h14, h5, h.2.2.1]
theorem AgF.n2rE (h : AgF s s') (h14 : s' 14 = s 14) (h5 : s' 5 = s 5) (t : Nat) : ∀ u, n2r s' t u = n2r s t u
  | 0 => rfl
  | u + 1 => by unfold n2r; rw [h.n2rE h14 h5 t u, h.lie2E h14 h5]
theorem AgF.n2E (h : AgF s s') (h14 : s' 14 = s 14) (h5 : s' 5 = s 5) (n : Nat) : ∀ t, n2 s' n t = n2 s n t
  | 0 => rfl
  | t + 1 => by unfold n2; rw [h.n2E h14 h5 n t, h.n2rE h14 h5]
theorem AgF.n2ofE (h : AgF s s') (h14 : s' 14 = s 14) (h5 : s' 5 = s 5) (n v : Nat) : ∀ t, n2of s' n v t = n2of s n v t
  | 0 => rfl
  | t + 1 => by unfold n2of; rw [h.n2ofE h14 h5 n v t, h.n2rE h14 h5, h.lie2E h14 h5]
theorem AgF.lManyE (h : AgF s s') (h14 : s' 14 = s 14) (h5 : s' 5 = s 5) : lMany s' = lMany s := by
  unfold lMany
  rw [h.quietE h14, h.lie1E h14 h5, h.n2E h14 h5, h.1]
theorem AgF.lSetsE (h : AgF s s') (h14 : s' 14 = s 14) (h5 : s' 5 = s 5) : lSets s' = lSets s := by
  unfold lSets
  rw [h.quietE h14, h.lie1E h14 h5, h.n2E h14 h5, h.1]
theorem AgF.lInE (h : AgF s s') (h14 : s' 14 = s 14) (h5 : s' 5 = s 5) : lIn s' = lIn s := by
  funext t
  unfold lIn
  rw [h.quietE h14, h.lie1E h14 h5, h.n2ofE h14 h5, h.1]
theorem AgF.laidE (h : AgF s s') {G : AH} (hl : Laid s G) : Laid s' G := by
  intro m hm
  refine ⟨(hl m hm).1, fun h1 h2 => ?_⟩
  have := (hl m hm).2 (by rw [← h.1]; exact h1) h2
  unfold FB at this ⊢
  rw [h.fwE]
  exact this
/-- nothing that is worked out hangs on it -/
theorem AgF.tcE (h : AgF s s') (h14 : s' 14 = s 14) (h5 : s' 5 = s 5) {G : AH} (hc : TC s G) : TC s' G := by
  obtain ⟨c1, c2, c3, c4⟩ := hc
  refine ⟨h.laidE c1, ?_, ?_, ?_⟩
  · rw [onU_agr h14, h.narE, h.1]; exact c2
  · rw [onU_agr h14, h.quarE, h.qManyE h14, h.inQE h14, h.1]; exact c3
  · rw [h.lManyE h14 h5, h.lSetsE h14 h5, h.lInE h14 h5, h.1]; exact c4
theorem TC.clr {G : AH} (hl : Laid s G) (h1 : hI G 136 80 = nI 0) (h2 : hI G 136 81 = nI 0) (h3 : hI G 136 82 = nI 0) : TC s G := ⟨hl, Or.inl h1, Or.inl h2, Or.inl h3⟩
theorem TI.ch {h : Nat → Nat → Int64} {w : Int32} {G G' : AH} (hT : TI s h w G) (hM : MS G') (hR : TR s' G') (hC : TC s' G') (h23 : s' 23 = s 23) (h25 : s' 25 = s 25) (himg : ∀ k, img k s' = img k s) (hsh : ∀ i, hJ G' 182 i = hJ G 182 i) (him : ∀ i, hI G' 174 i = hI G 174 i) (htr : hI G' 136 133 = hI G 136 133) : TI s' h w G' := by
  obtain ⟨a1, a2, a3, a4, a5, a6⟩ := hT
  refine ⟨hM, hR, hC, fun k hk i hi => by rw [hsh]; exact a4 k hk i (by rw [← h23]; exact hi), htr.trans a5, fun k hk h1 => ?_⟩
  have := a6 k hk (by rw [← h25]; exact h1)
  unfold TImg at this ⊢
  simp only [him, himg]
  exact this
theorem img_up {k f i v : Nat} (h : f < 32) : img k (up s f i v) = img k s := by
  funext g j
  show up s f i v (32 * (k + 1) + g) j = s (32 * (k + 1) + g) j
  rw [up_ne (by omega)]
end
section
variable {d : Nat} {G : AH} {s : SGT} {h : Nat → Nat → Int64} {w : Int32}
theorem m_other (hM : MS G) : cl d 149 [vr (some 136)] G = some (.inl none, sI (sI (sI G 136 80 (nI 0)) 136 81 (nI 0)) 136 82 (nI 0)) := by
  rw [en149]
  simp (disch := omega) only [rX2_other_0, rX2_other_1, rX2_other_2, rX2_other_5, rX2_other_6, rX2_other_7, rX2_other_10, rX2_other_11, rX2_other_12, rX2_other_15, psh_some, psh_none, bnd_r1, bnd_r0, b01_0, b01_1, lg_lt, lg_eq, lg_gt, lg_ge, lg_le, reduceIte, Bool.false_eq_true, and_true, true_and, and_false, false_and, not_true_eq_false, not_false_eq_true, eq_self, nI_add, nI_mul, nI_div, nI_irm, nI_subk, inb_ok, ix_ok, nI_lt_t, nI_lt_f, nI_le_t, nI_le_f, nI_eq_t, nI_eq_f, nI_z, ifb, ifbn, b01_bI, b01_n, Nat.reduceEqDiff, nl_l, nl_n, nl_i, nl_r, Bool.true_eq_false, reduceIte, if_true, if_false, ok0_0, ok0_1, ok0_2, ok0_3, ok0_4, ok0_5, ok0_6, ok0_7, ok0_8, ok0_9, ok0_10, ok0_11, ok0_12, ok0_13, ok0_14, ok0_15, ok0_16, ok0_17, ok0_18, ok0_19, ok0_20, ok0_21, ok0_22, ok0_23, ok0_24, ok0_25, ok0_26, ok0_27, ok0_28, ok0_29, ok0_30, ok0_31, ok0_32, ok0_33, ok0_34, ok0_35, ok0_36, ok0_37, ok0_38, ok0_39, ok0_40, ok0_41, ok0_42, ok0_43, ok0_44, ok0_45, ok0_46, ok0_47, ok0_48, ok0_49, ok0_50, ok0_51, ok0_52, ok0_53, ok0_54, ok1_141, ok2_55, ok2_56, ok2_57, ok2_58, ok2_59, ok2_60, ok2_61, ok2_62, ok2_63, ok2_64, ok2_65, ok2_66, ok2_67, ok2_68, ok2_69, ok2_70, ok2_71, ok2_72, ok2_73, ok2_74, ok2_75, ok2_76, ok2_77, ok2_78, ok2_79, ok2_80, ok2_81, ok2_82, ok2_83, ok2_84, ok2_85, ok2_86, ok2_87, ok2_88, ok2_89, ok2_90, ok2_91, ok2_92, ok2_93, ok2_94, ok2_95, ok2_96, ok2_97, ok2_98, ok2_99, ok2_100, ok2_101, ok2_102, ok2_103, ok2_104, ok2_105, ok2_106, ok2_107, ok2_108, ok2_109, ok2_110, ok2_111, ok2_112, ok2_113, ok2_114, ok2_115, ok2_116, ok2_117, ok2_118, ok2_119, ok2_120, ok2_121, ok2_122, ok2_123, ok2_124, ok2_125, ok2_126, ok2_127, ok2_128, ok2_129, ok2_130, ok2_131, ok2_132, ok2_133, ok2_134, ok2_135, ok2_136, ok2_137, ok3_171, ok3_172, ok3_173, ok3_174, ok3_175, ok3_176, ok4_171, ok4_172, ok4_173, ok4_174, ok4_175, ok4_176, ok4_177, ok4_178, ok5_171, ok5_172, ok5_173, ok5_174, ok5_175, ok5_176, ok5_177, ok5_178, ok5_179, ok7_142, ok7_143, ok7_144, ok7_145, ok7_146, ok7_147, ok7_148, ok7_149, ok7_152, ok7_153, ok7_154, ok8_142, ok8_143, ok8_144, ok8_145, ok8_146, ok8_147, ok8_148, ok8_149, ok8_152, ok8_153, ok8_154, ok8_155, ok9_142, ok9_143, ok9_144, ok9_145, ok9_146, ok9_147, ok9_148, ok9_149, ok9_152, ok9_153, ok9_154, ok9_155, ok9_180, ok10_142, ok10_143, ok10_144, ok10_145, ok10_146, ok10_147, ok10_148, ok10_149, ok10_150, ok10_151, ok11_142, ok11_143, ok11_144, ok11_145, ok11_146, ok11_147, ok11_148, ok11_149, ok11_152, ok11_153, ok11_154, ok11_155, ok11_156, ok11_157, ok13_158, ok13_159, ok13_160, ok13_161, ok13_162, ok13_163, ok13_164, ok13_165, ok13_166, ok13_167, ok13_168, ok13_169, ok13_170, ok16_138, ok16_139, ok16_140, ct_a, ct_a5, ct_b, ct_c, ct_d, ct_r50, ct_r51, ct_r52, ct_r53, ct_r54, ms_T, msR_58, msT_137, msL_137, msR_60, msT_138, msL_138, msR_61, msT_139, msL_139, msR_62, msT_140, msL_140, msR_63, msT_141, msL_141, msR_64, msT_142, msL_142, msR_65, msT_143, msL_143, msR_66, msT_144, msL_144, msR_68, msT_145, msL_145, msR_69, msT_146, msL_146, msR_70, msT_147, msL_147, msR_71, msT_148, msL_148, msR_72, msT_149, msL_149, msR_73, msT_150, msL_150, msR_75, msT_151, msL_151, msR_76, msT_152, msL_152, msR_77, msT_153, msL_153, msR_79, msT_154, msL_154, msR_83, msT_155, msL_155, msR_84, msT_156, msL_156, msR_85, msT_157, msL_157, msR_86, msT_158, msL_158, msR_87, msT_159, msL_159, msR_88, msT_160, msL_160, msR_89, msT_161, msL_161, msR_91, msT_162, msL_162, msR_93, msT_163, msL_163, msR_94, msT_164, msL_164, msR_95, msT_165, msL_165, msR_99, msT_166, msL_166, msR_100, msT_167, msL_167, msR_102, msT_168, msL_168, msR_120, msT_169, msL_169, msR_121, msT_170, msL_170, msR_122, msT_171, msL_171, msR_125, msT_172, msL_172, msR_126, msT_173, msL_173, msR_127, msT_174, msL_174, msR_128, msT_175, msL_175, msR_129, msT_176, msL_176, msR_130, msT_177, msL_177, msR_131, msT_178, msL_178, msR_132, msT_179, msL_179, msR_134, msT_180, msL_180, msR_135, msT_181, msL_181, msR_136, msT_182, msL_182, msR_137, msT_183, msL_183, hM, hI_sI, hJ_sI, hR_sI, hT_sI, hL_sI, hN_sI, hC_sI, hS_sI, hI_sJ, hJ_sJ, hR_sJ, hT_sJ, hL_sJ, hN_sJ, hC_sJ, hS_sJ, hI_sR, hJ_sR, hR_sR, hT_sR, hL_sR, hN_sR, hC_sR, hS_sR, hI_mkx, hJ_mkx, hR_mkx, hT_mkx, hL_mkx, hN_mkx, hC_mkx, hS_mkx, hI_cpI, hJ_cpI, hR_cpI, hT_cpI, hL_cpI, hN_cpI, hC_cpI, hS_cpI, hI_cpJ, hJ_cpJ, hR_cpJ, hT_cpJ, hL_cpJ, hN_cpJ, hC_cpJ, hS_cpJ, hI_cpR, hJ_cpR, hR_cpR, hT_cpR, hL_cpR, hN_cpR, hC_cpR, hS_cpR, nl_i, nl_r, nl_l, nl_n, hI_bmp, hJ_bmp, hR_bmp, hT_bmp, hL_bmp, hN_bmp, hC_bmp, hS_bmp]
theorem m_otherField (hM : MS G) (hd : 1 ≤ d) : ∃ G', cl d 148 [vr (some 136)] G = some (.inl none, G') ∧ Sm [154] [80, 81, 82] G G' ∧ (∀ m, m < 60 → hI G' 154 m = nI 0) ∧ hI G' 136 80 = nI 0 ∧ hI G' 136 81 = nI 0 ∧ hI G' 136 82 = nI 0 := by
  rw [en148]
  simp only [rX2_otherField_0, rX2_otherField_1, psh_some, psh_none, bnd_r1, bnd_r0, b01_0, b01_1, lg_lt, lg_eq, lg_gt, lg_ge, lg_le, reduceIte, Bool.false_eq_true, and_true, true_and, and_false, false_and, not_true_eq_false, not_false_eq_true, eq_self, nl_l, nl_n, nl_i]
  refine lpQ (P := fun i H => At d 148 2 [some (vr (some 136)), some (vi (nI i))] [] H) (Q := fun q => ∃ G', q = some (.inl none, G') ∧ Sm [154] [80, 81, 82] G G' ∧ (∀ m, m < 60 → hI G' 154 m = nI 0) ∧ hI G' 136 80 = nI 0 ∧ hI G' 136 81 = nI 0 ∧ hI G' 136 82 = nI 0) (fun i H => Sm [154] [80, 81, 82] G H ∧ ∀ m, m < i → hI H 154 m = nI 0) 60 ?_ ?_ (Nat.zero_le _) ⟨Sm.refl G, fun m q => absurd q (by omega)⟩
  · rintro i H hi ⟨a1, a2⟩ ih
    have hMH := a1.ms hM
    rw [rX2_otherField_2]
    simp (disch := omega) only [rX2_otherField_0, rX2_otherField_1, rX2_otherField_3, rX2_otherField_5, rX2_otherField_8, rX2_otherField_9, rX2_otherField_12, rX2_otherField_13, rX2_otherField_14, rX2_otherField_15, rX2_otherField_18, rX2_otherField_21, rX2_otherField_22, rX2_otherField_25, psh_some, psh_none, bnd_r1, bnd_r0, b01_0, b01_1, lg_lt, lg_eq, lg_gt, lg_ge, lg_le, reduceIte, Bool.false_eq_true, and_true, true_and, and_false, false_and, not_true_eq_false, not_false_eq_true, eq_self, nI_add, nI_mul, nI_div, nI_irm, nI_subk, inb_ok, ix_ok, nI_lt_t, nI_lt_f, nI_le_t, nI_le_f, nI_eq_t, nI_eq_f, nI_z, ifb, ifbn, b01_bI, b01_n, Nat.reduceEqDiff, nl_l, nl_n, nl_i, nl_r, Bool.true_eq_false, reduceIte, if_true, if_false, ok0_0, ok0_1, ok0_2, ok0_3, ok0_4, ok0_5, ok0_6, ok0_7, ok0_8, ok0_9, ok0_10, ok0_11, ok0_12, ok0_13, ok0_14, ok0_15, ok0_16, ok0_17, ok0_18, ok0_19, ok0_20, ok0_21, ok0_22, ok0_23, ok0_24, ok0_25, ok0_26, ok0_27, ok0_28, ok0_29, ok0_30, ok0_31, ok0_32, ok0_33, ok0_34, ok0_35, ok0_36, ok0_37, ok0_38, ok0_39, ok0_40, ok0_41, ok0_42, ok0_43, ok0_44, ok0_45, ok0_46, ok0_47, ok0_48, ok0_49, ok0_50, ok0_51, ok0_52, ok0_53, ok0_54, ok1_141, ok2_55, ok2_56, ok2_57, ok2_58, ok2_59, ok2_60, ok2_61, ok2_62, ok2_63, ok2_64, ok2_65, ok2_66, ok2_67, ok2_68, ok2_69, ok2_70, ok2_71, ok2_72, ok2_73, ok2_74, ok2_75, ok2_76, ok2_77, ok2_78, ok2_79, ok2_80, ok2_81, ok2_82, ok2_83, ok2_84, ok2_85, ok2_86, ok2_87, ok2_88, ok2_89, ok2_90, ok2_91, ok2_92, ok2_93, ok2_94, ok2_95, ok2_96, ok2_97, ok2_98, ok2_99, ok2_100, ok2_101, ok2_102, ok2_103, ok2_104, ok2_105, ok2_106, ok2_107, ok2_108, ok2_109, ok2_110, ok2_111, ok2_112, ok2_113, ok2_114, ok2_115, ok2_116, ok2_117, ok2_118, ok2_119, ok2_120, ok2_121, ok2_122, ok2_123, ok2_124, ok2_125, ok2_126, ok2_127, ok2_128, ok2_129, ok2_130, ok2_131, ok2_132, ok2_133, ok2_134, ok2_135, ok2_136, ok2_137, ok3_171, ok3_172, ok3_173, ok3_174, ok3_175, ok3_176, ok4_171, ok4_172, ok4_173, ok4_174, ok4_175, ok4_176, ok4_177, ok4_178, ok5_171, ok5_172, ok5_173, ok5_174, ok5_175, ok5_176, ok5_177, ok5_178, ok5_179, ok7_142, ok7_143, ok7_144, ok7_145, ok7_146, ok7_147, ok7_148, ok7_149, ok7_152, ok7_153, ok7_154, ok8_142, ok8_143, ok8_144, ok8_145, ok8_146, ok8_147, ok8_148, ok8_149, ok8_152, ok8_153, ok8_154, ok8_155, ok9_142, ok9_143, ok9_144, ok9_145, ok9_146, ok9_147, ok9_148, ok9_149, ok9_152, ok9_153, ok9_154, ok9_155, ok9_180, ok10_142, ok10_143, ok10_144, ok10_145, ok10_146, ok10_147, ok10_148, ok10_149, ok10_150, ok10_151, ok11_142, ok11_143, ok11_144, ok11_145, ok11_146, ok11_147, ok11_148, ok11_149, ok11_152, ok11_153, ok11_154, ok11_155, ok11_156, ok11_157, ok13_158, ok13_159, ok13_160, ok13_161, ok13_162, ok13_163, ok13_164, ok13_165, ok13_166, ok13_167, ok13_168, ok13_169, ok13_170, ok16_138, ok16_139, ok16_140, ct_a, ct_a5, ct_b, ct_c, ct_d, ct_r50, ct_r51, ct_r52, ct_r53, ct_r54, ms_T, msR_58, msT_137, msL_137, msR_60, msT_138, msL_138, msR_61, msT_139, msL_139, msR_62, msT_140, msL_140, msR_63, msT_141, msL_141, msR_64, msT_142, msL_142, msR_65, msT_143, msL_143, msR_66, msT_144, msL_144, msR_68, msT_145, msL_145, msR_69, msT_146, msL_146, msR_70, msT_147, msL_147, msR_71, msT_148, msL_148, msR_72, msT_149, msL_149, msR_73, msT_150, msL_150, msR_75, msT_151, msL_151, msR_76, msT_152, msL_152, msR_77, msT_153, msL_153, msR_79, msT_154, msL_154, msR_83, msT_155, msL_155, msR_84, msT_156, msL_156, msR_85, msT_157, msL_157, msR_86, msT_158, msL_158, msR_87, msT_159, msL_159, msR_88, msT_160, msL_160, msR_89, msT_161, msL_161, msR_91, msT_162, msL_162, msR_93, msT_163, msL_163, msR_94, msT_164, msL_164, msR_95, msT_165, msL_165, msR_99, msT_166, msL_166, msR_100, msT_167, msL_167, msR_102, msT_168, msL_168, msR_120, msT_169, msL_169, msR_121, msT_170, msL_170, msR_122, msT_171, msL_171, msR_125, msT_172, msL_172, msR_126, msT_173, msL_173, msR_127, msT_174, msL_174, msR_128, msT_175, msL_175, msR_129, msT_176, msL_176, msR_130, msT_177, msL_177, msR_131, msT_178, msL_178, msR_132, msT_179, msL_179, msR_134, msT_180, msL_180, msR_135, msT_181, msL_181, msR_136, msT_182, msL_182, msR_137, msT_183, msL_183, hMH]
    refine ih (sI H 154 i (nI 0)) ⟨a1.trans (Sm.sI (Or.inl (by decide))), fun m hm => ?_⟩
    rw [hI_sI]
    by_cases e : m = i
    · rw [if_pos ⟨rfl, e⟩]
    · rw [if_neg (fun q => e q.2)]; exact a2 m (by omega)
  · rintro H ⟨a1, a2⟩
    have hMH := a1.ms hM
    rw [rX2_otherField_2]
    simp (disch := omega) only [rX2_otherField_3, rX2_otherField_5, rX2_otherField_21, rX2_otherField_22, rX2_otherField_25, psh_some, psh_none, bnd_r1, bnd_r0, b01_0, b01_1, lg_lt, lg_eq, lg_gt, lg_ge, lg_le, reduceIte, Bool.false_eq_true, and_true, true_and, and_false, false_and, not_true_eq_false, not_false_eq_true, eq_self, nI_add, nI_mul, nI_div, nI_irm, nI_subk, inb_ok, ix_ok, nI_lt_t, nI_lt_f, nI_le_t, nI_le_f, nI_eq_t, nI_eq_f, nI_z, ifb, ifbn, b01_bI, b01_n, Nat.reduceEqDiff, nl_l, nl_n, nl_i, nl_r, Bool.true_eq_false, reduceIte, if_true, if_false, ok0_0, ok0_1, ok0_2, ok0_3, ok0_4, ok0_5, ok0_6, ok0_7, ok0_8, ok0_9, ok0_10, ok0_11, ok0_12, ok0_13, ok0_14, ok0_15, ok0_16, ok0_17, ok0_18, ok0_19, ok0_20, ok0_21, ok0_22, ok0_23, ok0_24, ok0_25, ok0_26, ok0_27, ok0_28, ok0_29, ok0_30, ok0_31, ok0_32, ok0_33, ok0_34, ok0_35, ok0_36, ok0_37, ok0_38, ok0_39, ok0_40, ok0_41, ok0_42, ok0_43, ok0_44, ok0_45, ok0_46, ok0_47, ok0_48, ok0_49, ok0_50, ok0_51, ok0_52, ok0_53, ok0_54, ok1_141, ok2_55, ok2_56, ok2_57, ok2_58, ok2_59, ok2_60, ok2_61, ok2_62, ok2_63, ok2_64, ok2_65, ok2_66, ok2_67, ok2_68, ok2_69, ok2_70, ok2_71, ok2_72, ok2_73, ok2_74, ok2_75, ok2_76, ok2_77, ok2_78, ok2_79, ok2_80, ok2_81, ok2_82, ok2_83, ok2_84, ok2_85, ok2_86, ok2_87, ok2_88, ok2_89, ok2_90, ok2_91, ok2_92, ok2_93, ok2_94, ok2_95, ok2_96, ok2_97, ok2_98, ok2_99, ok2_100, ok2_101, ok2_102, ok2_103, ok2_104, ok2_105, ok2_106, ok2_107, ok2_108, ok2_109, ok2_110, ok2_111, ok2_112, ok2_113, ok2_114, ok2_115, ok2_116, ok2_117, ok2_118, ok2_119, ok2_120, ok2_121, ok2_122, ok2_123, ok2_124, ok2_125, ok2_126, ok2_127, ok2_128, ok2_129, ok2_130, ok2_131, ok2_132, ok2_133, ok2_134, ok2_135, ok2_136, ok2_137, ok3_171, ok3_172, ok3_173, ok3_174, ok3_175, ok3_176, ok4_171, ok4_172, ok4_173, ok4_174, ok4_175, ok4_176, ok4_177, ok4_178, ok5_171, ok5_172, ok5_173, ok5_174, ok5_175, ok5_176, ok5_177, ok5_178, ok5_179, ok7_142, ok7_143, ok7_144, ok7_145, ok7_146, ok7_147, ok7_148, ok7_149, ok7_152, ok7_153, ok7_154, ok8_142, ok8_143, ok8_144, ok8_145, ok8_146, ok8_147, ok8_148, ok8_149, ok8_152, ok8_153, ok8_154, ok8_155, ok9_142, ok9_143, ok9_144, ok9_145, ok9_146, ok9_147, ok9_148, ok9_149, ok9_152, ok9_153, ok9_154, ok9_155, ok9_180, ok10_142, ok10_143, ok10_144, ok10_145, ok10_146, ok10_147, ok10_148, ok10_149, ok10_150, ok10_151, ok11_142, ok11_143, ok11_144, ok11_145, ok11_146, ok11_147, ok11_148, ok11_149, ok11_152, ok11_153, ok11_154, ok11_155, ok11_156, ok11_157, ok13_158, ok13_159, ok13_160, ok13_161, ok13_162, ok13_163, ok13_164, ok13_165, ok13_166, ok13_167, ok13_168, ok13_169, ok13_170, ok16_138, ok16_139, ok16_140, ct_a, ct_a5, ct_b, ct_c, ct_d, ct_r50, ct_r51, ct_r52, ct_r53, ct_r54, ms_T, msR_58, msT_137, msL_137, msR_60, msT_138, msL_138, msR_61, msT_139, msL_139, msR_62, msT_140, msL_140, msR_63, msT_141, msL_141, msR_64, msT_142, msL_142, msR_65, msT_143, msL_143, msR_66, msT_144, msL_144, msR_68, msT_145, msL_145, msR_69, msT_146, msL_146, msR_70, msT_147, msL_147, msR_71, msT_148, msL_148, msR_72, msT_149, msL_149, msR_73, msT_150, msL_150, msR_75, msT_151, msL_151, msR_76, msT_152, msL_152, msR_77, msT_153, msL_153, msR_79, msT_154, msL_154, msR_83, msT_155, msL_155, msR_84, msT_156, msL_156, msR_85, msT_157, msL_157, msR_86, msT_158, msL_158, msR_87, msT_159, msL_159, msR_88, msT_160, msL_160, msR_89, msT_161, msL_161, msR_91, msT_162, msL_162, msR_93, msT_163, msL_163, msR_94, msT_164, msL_164, msR_95, msT_165, msL_165, msR_99, msT_166, msL_166, msR_100, msT_167, msL_167, msR_102, msT_168, msL_168, msR_120, msT_169, msL_169, msR_121, msT_170, msL_170, msR_122, msT_171, msL_171, msR_125, msT_172, msL_172, msR_126, msT_173, msL_173, msR_127, msT_174, msL_174, msR_128, msT_175, msL_175, msR_129, msT_176, msL_176, msR_130, msT_177, msL_177, msR_131, msT_178, msL_178, msR_132, msT_179, msL_179, msR_134, msT_180, msL_180, msR_135, msT_181, msL_181, msR_136, msT_182, msL_182, msR_137, msT_183, msL_183, hMH, m_other (d := d - 1) hMH]
    refine ⟨_, rfl, a1.trans ((Sm.sI (Or.inr ⟨rfl, by decide⟩)).trans ((Sm.sI (Or.inr ⟨rfl, by decide⟩)).trans (Sm.sI (Or.inr ⟨rfl, by decide⟩)))), fun m hm => ?_, ?_, ?_, ?_⟩
    · rw [hI_sI, if_neg (by omega), hI_sI, if_neg (by omega), hI_sI, if_neg (by omega)]; exact a2 m hm
    · rw [hI_sI, if_neg (by decide), hI_sI, if_neg (by decide), hI_sI, if_pos ⟨rfl, rfl⟩]
    · rw [hI_sI, if_neg (by decide), hI_sI, if_pos ⟨rfl, rfl⟩]
    · rw [hI_sI, if_pos ⟨rfl, rfl⟩]
def bN (b : Bool) : Nat := if b = true then 1 else 0
theorem bI_bN {b : Bool} : bI b = nI (bN b) := by cases b <;> rfl
def aAlone (s : SGT) (b : Bool) : Int32 := if s 26 1 = bN b then nI 0 else nI 1
theorem mo_alone {b : Bool} (hS : SB s) : MO d 197 [vi (bI b)] s h w (vi (aAlone s b)) (up s 26 1 (bN b)) h w := fun G hT => by
  have h0 := hS.1
  have hM := hT.1
  have hR := hT.2.1
  have hbn : bN b ≤ 1 := by cases b <;> decide
  refine ⟨sI G 136 78 (nI (bN b)), ?_, Sm.sI (Or.inl (by decide)), hT.ch hM (hR.sca (by decide)) (AgF.tcE ⟨up_ne (by decide), up_ne (by decide), up_ne (by decide), up_ne (by decide), up_ne (by decide), up_ne (by decide), up_ne (by decide), up_ne (by decide), up_ne (by decide), up_ne (by decide)⟩ (up_ne (by decide)) (up_ne (by decide)) (hT.2.2.1.sm (Sm.sI (l := []) (f := [78]) (Or.inr ⟨rfl, by decide⟩)) (by decide) (by decide))) (up_ne (by decide)) (up_ne (by decide)) (fun k => img_up (by decide)) (fun i => rfl) (fun i => by rw [hI_sI, if_neg (by omega)]) (by rw [hI_sI, if_neg (by decide)])⟩
  rw [en197, bI_bN]
  unfold aAlone
  by_cases e : s 26 1 = bN b
  · simp (disch := omega) only [rX2_alone_0, rX2_alone_1, rX2_alone_4, rX2_alone_5, rX2_alone_6, rX2_alone_7, rX2_alone_10, rX2_alone_11, rX2_alone_12, rX2_alone_15, rX2_alone_16, rX2_alone_19, rX2_alone_20, psh_some, psh_none, bnd_r1, bnd_r0, b01_0, b01_1, lg_lt, lg_eq, lg_gt, lg_ge, lg_le, reduceIte, Bool.false_eq_true, and_true, true_and, and_false, false_and, not_true_eq_false, not_false_eq_true, eq_self, nI_add, nI_mul, nI_div, nI_irm, nI_subk, inb_ok, ix_ok, nI_lt_t, nI_lt_f, nI_le_t, nI_le_f, nI_eq_t, nI_eq_f, nI_z, ifb, ifbn, b01_bI, b01_n, Nat.reduceEqDiff, nl_l, nl_n, nl_i, nl_r, Bool.true_eq_false, reduceIte, if_true, if_false, ok0_0, ok0_1, ok0_2, ok0_3, ok0_4, ok0_5, ok0_6, ok0_7, ok0_8, ok0_9, ok0_10, ok0_11, ok0_12, ok0_13, ok0_14, ok0_15, ok0_16, ok0_17, ok0_18, ok0_19, ok0_20, ok0_21, ok0_22, ok0_23, ok0_24, ok0_25, ok0_26, ok0_27, ok0_28, ok0_29, ok0_30, ok0_31, ok0_32, ok0_33, ok0_34, ok0_35, ok0_36, ok0_37, ok0_38, ok0_39, ok0_40, ok0_41, ok0_42, ok0_43, ok0_44, ok0_45, ok0_46, ok0_47, ok0_48, ok0_49, ok0_50, ok0_51, ok0_52, ok0_53, ok0_54, ok1_141, ok2_55, ok2_56, ok2_57, ok2_58, ok2_59, ok2_60, ok2_61, ok2_62, ok2_63, ok2_64, ok2_65, ok2_66, ok2_67, ok2_68, ok2_69, ok2_70, ok2_71, ok2_72, ok2_73, ok2_74, ok2_75, ok2_76, ok2_77, ok2_78, ok2_79, ok2_80, ok2_81, ok2_82, ok2_83, ok2_84, ok2_85, ok2_86, ok2_87, ok2_88, ok2_89, ok2_90, ok2_91, ok2_92, ok2_93, ok2_94, ok2_95, ok2_96, ok2_97, ok2_98, ok2_99, ok2_100, ok2_101, ok2_102, ok2_103, ok2_104, ok2_105, ok2_106, ok2_107, ok2_108, ok2_109, ok2_110, ok2_111, ok2_112, ok2_113, ok2_114, ok2_115, ok2_116, ok2_117, ok2_118, ok2_119, ok2_120, ok2_121, ok2_122, ok2_123, ok2_124, ok2_125, ok2_126, ok2_127, ok2_128, ok2_129, ok2_130, ok2_131, ok2_132, ok2_133, ok2_134, ok2_135, ok2_136, ok2_137, ok3_171, ok3_172, ok3_173, ok3_174, ok3_175, ok3_176, ok4_171, ok4_172, ok4_173, ok4_174, ok4_175, ok4_176, ok4_177, ok4_178, ok5_171, ok5_172, ok5_173, ok5_174, ok5_175, ok5_176, ok5_177, ok5_178, ok5_179, ok7_142, ok7_143, ok7_144, ok7_145, ok7_146, ok7_147, ok7_148, ok7_149, ok7_152, ok7_153, ok7_154, ok8_142, ok8_143, ok8_144, ok8_145, ok8_146, ok8_147, ok8_148, ok8_149, ok8_152, ok8_153, ok8_154, ok8_155, ok9_142, ok9_143, ok9_144, ok9_145, ok9_146, ok9_147, ok9_148, ok9_149, ok9_152, ok9_153, ok9_154, ok9_155, ok9_180, ok10_142, ok10_143, ok10_144, ok10_145, ok10_146, ok10_147, ok10_148, ok10_149, ok10_150, ok10_151, ok11_142, ok11_143, ok11_144, ok11_145, ok11_146, ok11_147, ok11_148, ok11_149, ok11_152, ok11_153, ok11_154, ok11_155, ok11_156, ok11_157, ok13_158, ok13_159, ok13_160, ok13_161, ok13_162, ok13_163, ok13_164, ok13_165, ok13_166, ok13_167, ok13_168, ok13_169, ok13_170, ok16_138, ok16_139, ok16_140, ct_a, ct_a5, ct_b, ct_c, ct_d, ct_r50, ct_r51, ct_r52, ct_r53, ct_r54, ms_T, msR_58, msT_137, msL_137, msR_60, msT_138, msL_138, msR_61, msT_139, msL_139, msR_62, msT_140, msL_140, msR_63, msT_141, msL_141, msR_64, msT_142, msL_142, msR_65, msT_143, msL_143, msR_66, msT_144, msL_144, msR_68, msT_145, msL_145, msR_69, msT_146, msL_146, msR_70, msT_147, msL_147, msR_71, msT_148, msL_148, msR_72, msT_149, msL_149, msR_73, msT_150, msL_150, msR_75, msT_151, msL_151, msR_76, msT_152, msL_152, msR_77, msT_153, msL_153, msR_79, msT_154, msL_154, msR_83, msT_155, msL_155, msR_84, msT_156, msL_156, msR_85, msT_157, msL_157, msR_86, msT_158, msL_158, msR_87, msT_159, msL_159, msR_88, msT_160, msL_160, msR_89, msT_161, msL_161, msR_91, msT_162, msL_162, msR_93, msT_163, msL_163, msR_94, msT_164, msL_164, msR_95, msT_165, msL_165, msR_99, msT_166, msL_166, msR_100, msT_167, msL_167, msR_102, msT_168, msL_168, msR_120, msT_169, msL_169, msR_121, msT_170, msL_170, msR_122, msT_171, msL_171, msR_125, msT_172, msL_172, msR_126, msT_173, msL_173, msR_127, msT_174, msL_174, msR_128, msT_175, msL_175, msR_129, msT_176, msL_176, msR_130, msT_177, msL_177, msR_131, msT_178, msL_178, msR_132, msT_179, msL_179, msR_134, msT_180, msL_180, msR_135, msT_181, msL_181, msR_136, msT_182, msL_182, msR_137, msT_183, msL_183, tr_isWall hR, tr_kind hR, tr_at hR, tr_boxes hR, tr_isTrusted hR, tr_moverOf hR, tr_tickOf hR, tr_map hR, tr_kindOf hR, tr_one hR, tr_two hR, tr_pOf hR, tr_qOf hR, tr_isOn hR, tr_firstOfMover hR, tr_ticks hR, tr_reach hR, tr_heldWhat hR, tr_heldNumber hR, tr_heldKind hR, tr_heldSum hR, tr_heldMore hR, tr_sheetSize hR, tr_sheetLane hR, tr_isKept hR, tr_wide hR, tr_high hR, tr_things hR, tr_measures hR, tr_movers hR, tr_isAlone hR, tr_lastTrials hR, tr_fault hR, hM]
    rw [if_pos e]
  · simp (disch := omega) only [rX2_alone_0, rX2_alone_1, rX2_alone_4, rX2_alone_5, rX2_alone_6, rX2_alone_7, rX2_alone_10, rX2_alone_11, rX2_alone_12, rX2_alone_15, rX2_alone_16, rX2_alone_19, rX2_alone_20, psh_some, psh_none, bnd_r1, bnd_r0, b01_0, b01_1, lg_lt, lg_eq, lg_gt, lg_ge, lg_le, reduceIte, Bool.false_eq_true, and_true, true_and, and_false, false_and, not_true_eq_false, not_false_eq_true, eq_self, nI_add, nI_mul, nI_div, nI_irm, nI_subk, inb_ok, ix_ok, nI_lt_t, nI_lt_f, nI_le_t, nI_le_f, nI_eq_t, nI_eq_f, nI_z, ifb, ifbn, b01_bI, b01_n, Nat.reduceEqDiff, nl_l, nl_n, nl_i, nl_r, Bool.true_eq_false, reduceIte, if_true, if_false, ok0_0, ok0_1, ok0_2, ok0_3, ok0_4, ok0_5, ok0_6, ok0_7, ok0_8, ok0_9, ok0_10, ok0_11, ok0_12, ok0_13, ok0_14, ok0_15, ok0_16, ok0_17, ok0_18, ok0_19, ok0_20, ok0_21, ok0_22, ok0_23, ok0_24, ok0_25, ok0_26, ok0_27, ok0_28, ok0_29, ok0_30, ok0_31, ok0_32, ok0_33, ok0_34, ok0_35, ok0_36, ok0_37, ok0_38, ok0_39, ok0_40, ok0_41, ok0_42, ok0_43, ok0_44, ok0_45, ok0_46, ok0_47, ok0_48, ok0_49, ok0_50, ok0_51, ok0_52, ok0_53, ok0_54, ok1_141, ok2_55, ok2_56, ok2_57, ok2_58, ok2_59, ok2_60, ok2_61, ok2_62, ok2_63, ok2_64, ok2_65, ok2_66, ok2_67, ok2_68, ok2_69, ok2_70, ok2_71, ok2_72, ok2_73, ok2_74, ok2_75, ok2_76, ok2_77, ok2_78, ok2_79, ok2_80, ok2_81, ok2_82, ok2_83, ok2_84, ok2_85, ok2_86, ok2_87, ok2_88, ok2_89, ok2_90, ok2_91, ok2_92, ok2_93, ok2_94, ok2_95, ok2_96, ok2_97, ok2_98, ok2_99, ok2_100, ok2_101, ok2_102, ok2_103, ok2_104, ok2_105, ok2_106, ok2_107, ok2_108, ok2_109, ok2_110, ok2_111, ok2_112, ok2_113, ok2_114, ok2_115, ok2_116, ok2_117, ok2_118, ok2_119, ok2_120, ok2_121, ok2_122, ok2_123, ok2_124, ok2_125, ok2_126, ok2_127, ok2_128, ok2_129, ok2_130, ok2_131, ok2_132, ok2_133, ok2_134, ok2_135, ok2_136, ok2_137, ok3_171, ok3_172, ok3_173, ok3_174, ok3_175, ok3_176, ok4_171, ok4_172, ok4_173, ok4_174, ok4_175, ok4_176, ok4_177, ok4_178, ok5_171, ok5_172, ok5_173, ok5_174, ok5_175, ok5_176, ok5_177, ok5_178, ok5_179, ok7_142, ok7_143, ok7_144, ok7_145, ok7_146, ok7_147, ok7_148, ok7_149, ok7_152, ok7_153, ok7_154, ok8_142, ok8_143, ok8_144, ok8_145, ok8_146, ok8_147, ok8_148, ok8_149, ok8_152, ok8_153, ok8_154, ok8_155, ok9_142, ok9_143, ok9_144, ok9_145, ok9_146, ok9_147, ok9_148, ok9_149, ok9_152, ok9_153, ok9_154, ok9_155, ok9_180, ok10_142, ok10_143, ok10_144, ok10_145, ok10_146, ok10_147, ok10_148, ok10_149, ok10_150, ok10_151, ok11_142, ok11_143, ok11_144, ok11_145, ok11_146, ok11_147, ok11_148, ok11_149, ok11_152, ok11_153, ok11_154, ok11_155, ok11_156, ok11_157, ok13_158, ok13_159, ok13_160, ok13_161, ok13_162, ok13_163, ok13_164, ok13_165, ok13_166, ok13_167, ok13_168, ok13_169, ok13_170, ok16_138, ok16_139, ok16_140, ct_a, ct_a5, ct_b, ct_c, ct_d, ct_r50, ct_r51, ct_r52, ct_r53, ct_r54, ms_T, msR_58, msT_137, msL_137, msR_60, msT_138, msL_138, msR_61, msT_139, msL_139, msR_62, msT_140, msL_140, msR_63, msT_141, msL_141, msR_64, msT_142, msL_142, msR_65, msT_143, msL_143, msR_66, msT_144, msL_144, msR_68, msT_145, msL_145, msR_69, msT_146, msL_146, msR_70, msT_147, msL_147, msR_71, msT_148, msL_148, msR_72, msT_149, msL_149, msR_73, msT_150, msL_150, msR_75, msT_151, msL_151, msR_76, msT_152, msL_152, msR_77, msT_153, msL_153, msR_79, msT_154, msL_154, msR_83, msT_155, msL_155, msR_84, msT_156, msL_156, msR_85, msT_157, msL_157, msR_86, msT_158, msL_158, msR_87, msT_159, msL_159, msR_88, msT_160, msL_160, msR_89, msT_161, msL_161, msR_91, msT_162, msL_162, msR_93, msT_163, msL_163, msR_94, msT_164, msL_164, msR_95, msT_165, msL_165, msR_99, msT_166, msL_166, msR_100, msT_167, msL_167, msR_102, msT_168, msL_168, msR_120, msT_169, msL_169, msR_121, msT_170, msL_170, msR_122, msT_171, msL_171, msR_125, msT_172, msL_172, msR_126, msT_173, msL_173, msR_127, msT_174, msL_174, msR_128, msT_175, msL_175, msR_129, msT_176, msL_176, msR_130, msT_177, msL_177, msR_131, msT_178, msL_178, msR_132, msT_179, msL_179, msR_134, msT_180, msL_180, msR_135, msT_181, msL_181, msR_136, msT_182, msL_182, msR_137, msT_183, msL_183, tr_isWall hR, tr_kind hR, tr_at hR, tr_boxes hR, tr_isTrusted hR, tr_moverOf hR, tr_tickOf hR, tr_map hR, tr_kindOf hR, tr_one hR, tr_two hR, tr_pOf hR, tr_qOf hR, tr_isOn hR, tr_firstOfMover hR, tr_ticks hR, tr_reach hR, tr_heldWhat hR, tr_heldNumber hR, tr_heldKind hR, tr_heldSum hR, tr_heldMore hR, tr_sheetSize hR, tr_sheetLane hR, tr_isKept hR, tr_wide hR, tr_high hR, tr_things hR, tr_measures hR, tr_movers hR, tr_isAlone hR, tr_lastTrials hR, tr_fault hR, hM]
    rw [if_neg e]
end
