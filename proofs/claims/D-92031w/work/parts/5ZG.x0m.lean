/-! the class: walls change -/
/-- the desk, but for the rows of Steps -/
def DKs (s : SGT) (w : Int32) (et em : Nat) (rt rm : Nat → Nat) (G : AH) : Prop := XS G ∧ 184 ≤ hN G ∧ CR s w G ∧ (LSt G 5 (s 0 2) et ∧ ∀ t, t < s 0 2 → hR G et t = some (rt t) ∧ TH s t (rt t) G ∧ hJ G (rt t) 172 = wd (inbox s t) ∧ hI G (rt t) 173 = nI (s 5 t)) ∧ (LSt G 6 (s 0 3) em ∧ ∀ m, m < s 0 3 → hR G em m = some (rm m) ∧ ME s m (rm m) G ∧ (s 9 m ≠ 4 → MR s m (rm m) G) ∧ hI G (rm m) 146 = nI (s 14 m)) ∧ (et = 1 ∨ (184 ≤ et ∧ et ≠ em)) ∧ (em = 1 ∨ 184 ≤ em)
/-- what the walls' change leaves -/
def Wl (et em : Nat) (G H : AH) : Prop := Lv et em G H ∧ hN H = hN G ∧ (hT H = hT G ∧ hL H = hL G) ∧ (∀ a i, hR H a i = hR G a i) ∧ (∀ a i, a ≠ 4 → hI H a i = hI G a i) ∧ (∀ a i, a < 184 → a ≠ 4 → ¬ (a = 3 ∧ i = 4) → hJ H a i = hJ G a i) ∧ (∀ a i, 184 ≤ a → hT G a ≠ 41 → hJ H a i = hJ G a i) ∧ Gb 0 0 G H
section
variable {d n r m : Nat} {G G' K H : AH} {s s' σ : SGT} {h h' : Nat → Nat → Int64} {w w' : Int32} {et em : Nat} {rt rm : Nat → Nat} {l f : List Nat} {P : Nat → Bool}
theorem DK.toS (hD : DK s w et em rt rm G) : DKs s w et em rt rm G := by
  obtain ⟨b1, b2, b3, b4, ⟨b5, b6⟩, b7⟩ := hD
  exact ⟨b1, b2, b3, b4, ⟨b5, fun m hm => ⟨(b6 m hm).1, (b6 m hm).2.1, fun _ => (b6 m hm).2.2.1, (b6 m hm).2.2.2⟩⟩, b7⟩
theorem Lv.mk (k : Sx [4, r + 1, r + 2] [] G G') (h0 : ∀ a i, 184 ≤ a → hI G' a i = hI G a i) (h1 : hT G r = 11) (h2 : hT G (r + 1) = 41) (h3 : hT G (r + 2) = 41) : Lv et em G G' := by
  obtain ⟨⟨k1, k2, k3, k4, k5, k6⟩, k7, k8⟩ := k
  refine ⟨by omega, fun a _ => by rw [k4, k5]; exact ⟨rfl, rfl⟩, fun a i _ _ _ _ => by rw [k6], fun a i q1 q2 q3 q4 => h0 a i q1, fun a i q1 q2 q3 q4 => ?_⟩
  by_cases z : a = r + 1 ∨ a = r + 2
  · have h41 : hT G a = 41 := by rcases z with rfl | rfl <;> assumption
    have := q4 h41 r h1 h2
    omega
  · exact k8 a i (by simp; omega) (by omega)
theorem kpt_w (hA : ∀ c, c ≠ 1 → s' c = s c) (h4 : s 9 m ≠ 4) (h5 : s 9 m ≤ 4) : kpt s' m = kpt s m := by
  funext c e
  unfold kpt
  rw [hA 9 (by decide), hA 12 (by decide), hA 13 (by decide)]
  rcases (show s 9 m = 0 ∨ s 9 m = 1 ∨ s 9 m = 2 ∨ s 9 m = 3 by omega) with q | q | q | q <;> rw [q] <;> rfl
theorem ME.wl (hA : ∀ c, c ≠ 1 → s' c = s c) (hh : ME s m r G) : ME s' m r G := by
  unfold ME
  rw [hA 9 (by decide), hA 10 (by decide), hA 11 (by decide), hA 12 (by decide), hA 13 (by decide)]
  exact hh
theorem TH.wl {t : Nat} (hA : ∀ c, c ≠ 1 → s' c = s c) (hh : TH s t r G) : TH s' t r G := by
  unfold TH
  rw [hA 2 (by decide), hA 3 (by decide), hA 6 (by decide), hA 7 (by decide)]
  exact hh
set_option maxHeartbeats 1000000 in
theorem x_wallsBecome (hD : DKs s w et em rt rm G) (hS : SB s') (hA : ∀ c, c ≠ 1 → s' c = s c) (hd : 10 ≤ d) : ∃ H G', cl d 17 [vr (some 3), vl (wd (fun c => decide (s' 1 c = 1)))] G = some (.inl none, G') ∧ DK s' w et em rt rm G' ∧ (∀ σ, CC σ G') ∧ Wl et em G H ∧ Sx [] [11, 12, 47] H G' := by
  obtain ⟨b1, b2, b3, ⟨b4, b5⟩, ⟨b6, b7⟩, b8, b9⟩ := hD
  have h0 := hS.1
  have hz2 : s' 0 2 = s 0 2 := by rw [hA 0 (by decide)]
  have hz3 : s' 0 3 = s 0 3 := by rw [hA 0 (by decide)]
  have he50 : et = 1 ∨ hT G et = 50 := by have := b4.2.2.2.2.2.1; omega
  have hf50 : em = 1 ∨ hT G em = 50 := by have := b6.2.2.2.2.2.1; omega
  have hlt1 := b4.2.2.2.2.2.2.2.1
  have hlt2 := b6.2.2.2.2.2.2.2.1
  have hB : ∀ m, m < s 0 3 → MB s' m ∧ s 9 m ≤ 4 := fun m hm => by
    have := hS.mb (m := m) (by omega)
    refine ⟨this, ?_⟩
    rw [← hA 9 (by decide)]
    exact this.1
  have hTB : ∀ t, t < s 0 2 → s 2 t ≤ 2 := fun t ht => by
    rw [← hA 2 (by decide)]
    exact (hS.2.2.1 t (by omega)).1
  rw [en17]
  simp (disch := omega) only [rX0_wallsBecome_0, rX0_wallsBecome_1, rX0_wallsBecome_2, rX0_wallsBecome_5, rX0_wallsBecome_6, psh_some, psh_none, bnd_r1, bnd_r0, b01_0, b01_1, lg_lt, lg_eq, lg_gt, lg_ge, lg_le, reduceIte, Bool.false_eq_true, and_true, true_and, and_false, false_and, not_true_eq_false, not_false_eq_true, eq_self, nI_add, nI_mul, nI_div, nI_irm, nI_subk, inb_ok, ix_ok, nI_lt_t, nI_lt_f, nI_le_t, nI_le_f, nI_eq_t, nI_eq_f, nI_z, ifb, ifbn, b01_bI, b01_n, Nat.reduceEqDiff, nl_l, nl_n, nl_i, nl_r, Bool.true_eq_false, reduceIte, if_true, if_false, ok0_0, ok0_1, ok0_2, ok0_3, ok0_4, ok0_5, ok0_6, ok0_7, ok0_8, ok0_9, ok0_10, ok0_11, ok0_12, ok0_13, ok0_14, ok0_15, ok0_16, ok0_17, ok0_18, ok0_19, ok0_20, ok0_21, ok0_22, ok0_23, ok0_24, ok0_25, ok0_26, ok0_27, ok0_28, ok0_29, ok0_30, ok0_31, ok0_32, ok0_33, ok0_34, ok0_35, ok0_36, ok0_37, ok0_38, ok0_39, ok0_40, ok0_41, ok0_42, ok0_43, ok0_44, ok0_45, ok0_46, ok0_47, ok0_48, ok0_49, ok0_50, ok0_51, ok0_52, ok0_53, ok0_54, ok1_141, ok2_55, ok2_56, ok2_57, ok2_58, ok2_59, ok2_60, ok2_61, ok2_62, ok2_63, ok2_64, ok2_65, ok2_66, ok2_67, ok2_68, ok2_69, ok2_70, ok2_71, ok2_72, ok2_73, ok2_74, ok2_75, ok2_76, ok2_77, ok2_78, ok2_79, ok2_80, ok2_81, ok2_82, ok2_83, ok2_84, ok2_85, ok2_86, ok2_87, ok2_88, ok2_89, ok2_90, ok2_91, ok2_92, ok2_93, ok2_94, ok2_95, ok2_96, ok2_97, ok2_98, ok2_99, ok2_100, ok2_101, ok2_102, ok2_103, ok2_104, ok2_105, ok2_106, ok2_107, ok2_108, ok2_109, ok2_110, ok2_111, ok2_112, ok2_113, ok2_114, ok2_115, ok2_116, ok2_117, ok2_118, ok2_119, ok2_120, ok2_121, ok2_122, ok2_123, ok2_124, ok2_125, ok2_126, ok2_127, ok2_128, ok2_129, ok2_130, ok2_131, ok2_132, ok2_133, ok2_134, ok2_135, ok2_136, ok2_137, ok3_171, ok3_172, ok3_173, ok3_174, ok3_175, ok3_176, ok4_171, ok4_172, ok4_173, ok4_174, ok4_175, ok4_176, ok4_177, ok4_178, ok5_171, ok5_172, ok5_173, ok5_174, ok5_175, ok5_176, ok5_177, ok5_178, ok5_179, ok7_142, ok7_143, ok7_144, ok7_145, ok7_146, ok7_147, ok7_148, ok7_149, ok7_152, ok7_153, ok7_154, ok8_142, ok8_143, ok8_144, ok8_145, ok8_146, ok8_147, ok8_148, ok8_149, ok8_152, ok8_153, ok8_154, ok8_155, ok9_142, ok9_143, ok9_144, ok9_145, ok9_146, ok9_147, ok9_148, ok9_149, ok9_152, ok9_153, ok9_154, ok9_155, ok9_180, ok10_142, ok10_143, ok10_144, ok10_145, ok10_146, ok10_147, ok10_148, ok10_149, ok10_150, ok10_151, ok11_142, ok11_143, ok11_144, ok11_145, ok11_146, ok11_147, ok11_148, ok11_149, ok11_152, ok11_153, ok11_154, ok11_155, ok11_156, ok11_157, ok13_158, ok13_159, ok13_160, ok13_161, ok13_162, ok13_163, ok13_164, ok13_165, ok13_166, ok13_167, ok13_168, ok13_169, ok13_170, ok16_138, ok16_139, ok16_140, ct_a, ct_a5, ct_b, ct_c, ct_d, ct_r50, ct_r51, ct_r52, ct_r53, ct_r54, xs_T, xsR_5, xsT_4, xsL_4, xsR_6, xsT_5, xsL_5, xsR_7, xsT_6, xsL_6, xsR_8, xsT_7, xsL_7, xsR_9, xsT_8, xsL_8, xsR_10, xsT_9, xsL_9, xsR_14, xsT_10, xsL_10, xsR_17, xsT_11, xsL_11, xsR_18, xsT_12, xsL_12, xsR_24, xsT_13, xsL_13, xsR_25, xsT_14, xsL_14, xsR_26, xsT_24, xsL_24, xsR_28, xsT_106, xsL_106, xsR_34, xsT_107, xsL_107, xsR_41, xsT_108, xsL_108, xsR_42, xsT_109, xsL_109, xsR_43, xsT_110, xsL_110, xsR_44, xsT_111, xsL_111, xsR_46, xsT_112, xsL_112, xsR_52, xsT_121, xsL_121, xsR_53, xsT_122, xsL_122, xsR_54, xsT_131, xsL_131, b1]
  have hX1 : XS (sJ G 3 4 (wd (fun c => decide (s' 1 c = 1)))) := by rw [XS_sJ]; exact b1
  have w1 : Wl et em G (sJ G 3 4 (wd (fun c => decide (s' 1 c = 1)))) := ⟨⟨Nat.le_refl _, fun _ _ => ⟨rfl, rfl⟩, fun _ _ _ _ _ _ => rfl, fun _ _ _ _ _ _ => rfl, fun a i q _ _ _ => by rw [hJ_sJ, if_neg (by omega)]⟩, rfl, ⟨rfl, rfl⟩, fun _ _ => rfl, fun _ _ _ => rfl, fun a i _ _ q => by rw [hJ_sJ, if_neg q], fun a i q _ => by rw [hJ_sJ, if_neg (by omega)], Gb.refl G⟩
  have w2 : hJ (sJ G 3 4 (wd (fun c => decide (s' 1 c = 1)))) 3 4 = wd (fun c => decide (s' 1 c = 1)) := by rw [hJ_sJ, if_pos ⟨rfl, rfl⟩]
  generalize sJ G 3 4 (wd (fun c => decide (s' 1 c = 1))) = K at hX1 w1 w2
  have fdw : ∀ H, XS H → Wl et em G H → hJ H 3 4 = wd (fun c => decide (s' 1 c = 1)) → FD s' H := fun H q1 q2 q3 => ⟨q1, by rw [q2.2.2.2.2.1 _ _ (by decide), hA 0 (by decide)]; exact b3.1, by rw [q2.2.2.2.2.1 _ _ (by decide), hA 0 (by decide)]; exact b3.2.1, q3⟩
  refine lpQ (P := fun m (H : AH) => At d 17 7 [some (vr (some 3)), some (vl (wd (fun c => decide (s' 1 c = 1)))), none, some (vi (nI m))] [] H) (Q := fun q => ∃ H G', q = some (.inl none, G') ∧ DK s' w et em rt rm G' ∧ (∀ σ, CC σ G') ∧ Wl et em G H ∧ Sx [] [11, 12, 47] H G') (fun m H => XS H ∧ Wl et em G H ∧ hJ H 3 4 = wd (fun c => decide (s' 1 c = 1)) ∧ ∀ j, j < m → s 9 j = 4 → MR s' j (rm j) H) (s 0 3) ?_ ?_ (Nat.zero_le _) (s := K) ⟨hX1, w1, w2, fun j hj => absurd hj (by omega)⟩
  · rintro m H hm ⟨a1, a2, a3, a4⟩ ih
    have hFD := fdw H a1 a2 a3
    obtain ⟨v, vN, ⟨vT, vL⟩, vR, vI, vJ, vJ2, vG⟩ := a2
    obtain ⟨c1, c2, c3, c4⟩ := b7 m hm
    obtain ⟨hBm, hk4⟩ := hB m hm
    have hLS : LSt H 6 (s 0 3) em := b6.of (by omega) (fun a _ => by rw [vT, vL]; exact ⟨rfl, rfl⟩) (vI _ _ (by decide)) (vR _ _) b2
    have hsz := c_size (d := d - 1) hLS
    have hgt := c_get (d := d - 1) hLS hm (by omega)
    rw [vR, c1] at hgt
    have hT5 := hLS.1
    have hME := c2.lv hk4 v he50 hf50
    have hTr := hME.2.2.1
    have htg : List.contains [7, 8, 9, 10, 11] (hT H (rm m)) = true := by
      rw [hTr]
      rcases (show s 9 m = 0 ∨ s 9 m = 1 ∨ s 9 m = 2 ∨ s 9 m = 3 ∨ s 9 m = 4 by omega) with q | q | q | q | q <;> rw [q] <;> decide
    rw [rX0_wallsBecome_7]
    by_cases q4 : s 9 m = 4
    · have hmk : cl (d - 1) (vd2 (hT H (rm m))) [vr (some (rm m))] H = cl (d - 1) 321 [vr (some (rm m))] H := by rw [hTr, q4]; rfl
      have hT11 : hT H (rm m) = 11 := by rw [hTr, q4]
      have e12 := hBm.2.1
      have e13 := hBm.2.2.1
      rw [hA 12 (by decide)] at e12
      rw [hA 13 (by decide)] at e13
      obtain ⟨g19a, g19b⟩ := hME.2.2.2.2.2.2.2.2.2.2.2.2.2.2.2.2.2.2 q4
      obtain ⟨g16a, g16b, -⟩ := hME.2.2.2.2.2.2.2.2.2.2.2.2.2.2.2.1 (by omega)
      have g41a := hME.2.2.2.2.2.2.2.2.2.1
      have g41b := hME.2.2.2.2.2.2.2.2.2.2.2.1
      obtain ⟨H2, m1, m2, m0, m3⟩ := x_makeS (d := d - 1 - 1) (s := s') (r := rm m) (p := s 12 m) (q := s 13 m) c2.1 e12 e13 hT11 hME.2.2.2.2.2.2.2.1 hME.2.2.2.2.2.2.2.2.1 ⟨g41a, hME.2.2.2.2.2.2.2.2.2.2.1, g41b, hME.2.2.2.2.2.2.2.2.2.2.2.2.1⟩ g19b g16b g19a hFD hS.fbd (by omega)
      have hmk2 : cl (d - 1) 321 [vr (some (rm m))] H = some (.inl none, H2) := by
        rw [en321]
        simp (disch := omega) only [rX11_makeAnew_0, rX11_makeAnew_1, rX11_makeAnew_4, psh_some, psh_none, bnd_r1, bnd_r0, b01_0, b01_1, lg_lt, lg_eq, lg_gt, lg_ge, lg_le, reduceIte, Bool.false_eq_true, and_true, true_and, and_false, false_and, not_true_eq_false, not_false_eq_true, eq_self, hT11, m1]
      rw [hmk2] at hmk
      simp (disch := first | omega | assumption) only [rX0_wallsBecome_8, rX0_wallsBecome_9, rX0_wallsBecome_12, rX0_wallsBecome_17, rX0_wallsBecome_20, rX0_wallsBecome_21, rX0_wallsBecome_24, rX0_wallsBecome_25, rX0_wallsBecome_30, rX0_wallsBecome_30_n, rX0_wallsBecome_33_v, rX0_wallsBecome_36, rX0_wallsBecome_39, psh_some, psh_none, bnd_r1, bnd_r0, b01_0, b01_1, lg_lt, lg_eq, lg_gt, lg_ge, lg_le, reduceIte, Bool.false_eq_true, and_true, true_and, and_false, false_and, not_true_eq_false, not_false_eq_true, eq_self, nI_add, nI_mul, nI_div, nI_irm, nI_subk, inb_ok, ix_ok, nI_lt_t, nI_lt_f, nI_le_t, nI_le_f, nI_eq_t, nI_eq_f, nI_z, ifb, ifbn, b01_bI, b01_n, Nat.reduceEqDiff, nl_l, nl_n, nl_i, nl_r, Bool.true_eq_false, reduceIte, if_true, if_false, ok0_0, ok0_1, ok0_2, ok0_3, ok0_4, ok0_5, ok0_6, ok0_7, ok0_8, ok0_9, ok0_10, ok0_11, ok0_12, ok0_13, ok0_14, ok0_15, ok0_16, ok0_17, ok0_18, ok0_19, ok0_20, ok0_21, ok0_22, ok0_23, ok0_24, ok0_25, ok0_26, ok0_27, ok0_28, ok0_29, ok0_30, ok0_31, ok0_32, ok0_33, ok0_34, ok0_35, ok0_36, ok0_37, ok0_38, ok0_39, ok0_40, ok0_41, ok0_42, ok0_43, ok0_44, ok0_45, ok0_46, ok0_47, ok0_48, ok0_49, ok0_50, ok0_51, ok0_52, ok0_53, ok0_54, ok1_141, ok2_55, ok2_56, ok2_57, ok2_58, ok2_59, ok2_60, ok2_61, ok2_62, ok2_63, ok2_64, ok2_65, ok2_66, ok2_67, ok2_68, ok2_69, ok2_70, ok2_71, ok2_72, ok2_73, ok2_74, ok2_75, ok2_76, ok2_77, ok2_78, ok2_79, ok2_80, ok2_81, ok2_82, ok2_83, ok2_84, ok2_85, ok2_86, ok2_87, ok2_88, ok2_89, ok2_90, ok2_91, ok2_92, ok2_93, ok2_94, ok2_95, ok2_96, ok2_97, ok2_98, ok2_99, ok2_100, ok2_101, ok2_102, ok2_103, ok2_104, ok2_105, ok2_106, ok2_107, ok2_108, ok2_109, ok2_110, ok2_111, ok2_112, ok2_113, ok2_114, ok2_115, ok2_116, ok2_117, ok2_118, ok2_119, ok2_120, ok2_121, ok2_122, ok2_123, ok2_124, ok2_125, ok2_126, ok2_127, ok2_128, ok2_129, ok2_130, ok2_131, ok2_132, ok2_133, ok2_134, ok2_135, ok2_136, ok2_137, ok3_171, ok3_172, ok3_173, ok3_174, ok3_175, ok3_176, ok4_171, ok4_172, ok4_173, ok4_174, ok4_175, ok4_176, ok4_177, ok4_178, ok5_171, ok5_172, ok5_173, ok5_174, ok5_175, ok5_176, ok5_177, ok5_178, ok5_179, ok7_142, ok7_143, ok7_144, ok7_145, ok7_146, ok7_147, ok7_148, ok7_149, ok7_152, ok7_153, ok7_154, ok8_142, ok8_143, ok8_144, ok8_145, ok8_146, ok8_147, ok8_148, ok8_149, ok8_152, ok8_153, ok8_154, ok8_155, ok9_142, ok9_143, ok9_144, ok9_145, ok9_146, ok9_147, ok9_148, ok9_149, ok9_152, ok9_153, ok9_154, ok9_155, ok9_180, ok10_142, ok10_143, ok10_144, ok10_145, ok10_146, ok10_147, ok10_148, ok10_149, ok10_150, ok10_151, ok11_142, ok11_143, ok11_144, ok11_145, ok11_146, ok11_147, ok11_148, ok11_149, ok11_152, ok11_153, ok11_154, ok11_155, ok11_156, ok11_157, ok13_158, ok13_159, ok13_160, ok13_161, ok13_162, ok13_163, ok13_164, ok13_165, ok13_166, ok13_167, ok13_168, ok13_169, ok13_170, ok16_138, ok16_139, ok16_140, ct_a, ct_a5, ct_b, ct_c, ct_d, ct_r50, ct_r51, ct_r52, ct_r53, ct_r54, xs_T, xsR_5, xsT_4, xsL_4, xsR_6, xsT_5, xsL_5, xsR_7, xsT_6, xsL_6, xsR_8, xsT_7, xsL_7, xsR_9, xsT_8, xsL_8, xsR_10, xsT_9, xsL_9, xsR_14, xsT_10, xsL_10, xsR_17, xsT_11, xsL_11, xsR_18, xsT_12, xsL_12, xsR_24, xsT_13, xsL_13, xsR_25, xsT_14, xsL_14, xsR_26, xsT_24, xsL_24, xsR_28, xsT_106, xsL_106, xsR_34, xsT_107, xsL_107, xsR_41, xsT_108, xsL_108, xsR_42, xsT_109, xsL_109, xsR_43, xsT_110, xsL_110, xsR_44, xsT_111, xsL_111, xsR_46, xsT_112, xsL_112, xsR_52, xsT_121, xsL_121, xsR_53, xsT_122, xsL_122, xsR_54, xsT_131, xsL_131, a1, hT5, hsz, hgt, htg, hmk]
      have h184 := c2.1
      have hlv : Lv et em H H2 := Lv.mk m2 m0 hT11 g41a g41b
      have hnl : ∀ a, a < 184 → a ≠ 4 → a ∉ [4, rm m + 1, rm m + 2] := fun a q1 q2 => by simp; omega
      have k6 := m2.1
      refine ih H2 ⟨m2.xs a1, ⟨v.trans hlv (Or.inl rfl) (Or.inr (Or.inl rfl)), by omega, ⟨k6.2.2.2.1.trans vT, k6.2.2.2.2.1.trans vL⟩, fun a i => by rw [k6.2.2.2.2.2]; exact vR a i, fun a i q => ?_, fun a i q1 q2 q3 => (m2.2.2 a i (hnl a q1 q2) (by simp)).trans (vJ a i q1 q2 q3), fun a i q1 q2 => ?_, (vG.trans m2.gb).mono (by omega) (by omega)⟩, (m2.2.2 3 _ (hnl 3 (by omega) (by decide)) (by simp)).trans a3, fun j hj q => ?_⟩
      · by_cases z : 184 ≤ a
        · exact (m0 a i z).trans (vI a i q)
        · exact (m2.2.1 a i (hnl a (by omega) q) (by simp)).trans (vI a i q)
      · refine (m2.2.2 a i ?_ (by simp)).trans (vJ2 a i q1 q2)
        have e1 : a ≠ rm m + 1 := by rintro rfl; rw [← vT] at q2; exact q2 g41a
        have e2 : a ≠ rm m + 2 := by rintro rfl; rw [← vT] at q2; exact q2 g41b
        simp
        omega
      · by_cases z : j = m
        · subst z
          refine stK_mr (by rw [hA 9 (by decide)]; exact q) (fun c hc => ?_)
          rw [hA 12 (by decide), hA 13 (by decide)]
          exact m3 c hc
        · have hold := a4 j (by omega) q
          obtain ⟨d1, d2, d3, d4⟩ := b7 j (by omega)
          have hMj := d2.lv (hB j (by omega)).2 v he50 hf50
          have hTj : hT H (rm j) = 11 := by rw [hMj.2.2.1, q]
          have j41 := hMj.2.2.2.2.2.2.2.2.2.1
          have hne : rm j ≠ rm m := fun e => z (by
            have q1 := hMj.2.2.2.1
            have q2 := hME.2.2.2.1
            rw [e, q2] at q1
            have := congrArg Int32.toInt q1
            rw [nI_toInt (by omega), nI_toInt (by omega)] at this
            omega)
          have n1 : rm j + 1 ≠ rm m := fun e => by rw [e] at j41; omega
          have n2 : rm m + 1 ≠ rm j := fun e => by rw [e] at g41a; omega
          have hj184 := d2.1
          intro c hc
          rw [m2.2.2 (rm j + 1) c (by simp; omega) (by omega), m2.2.2 (rm j + 2) c (by simp; omega) (by omega)]
          exact hold c hc
    · have hmk : cl (d - 1) (vd2 (hT H (rm m))) [vr (some (rm m))] H = some (.inl none, H) := by
        have : vd2 (hT H (rm m)) = 295 := by
          rw [hTr]
          rcases (show s 9 m = 0 ∨ s 9 m = 1 ∨ s 9 m = 2 ∨ s 9 m = 3 by omega) with q | q | q | q <;> rw [q] <;> rfl
        rw [this, en295]
        simp (disch := omega) only [rX6_makeAnew_0, psh_some, psh_none, bnd_r1, bnd_r0, b01_0, b01_1, lg_lt, lg_eq, lg_gt, lg_ge, lg_le, reduceIte, Bool.false_eq_true, and_true, true_and, and_false, false_and, not_true_eq_false, not_false_eq_true, eq_self]
      simp (disch := first | omega | assumption) only [rX0_wallsBecome_8, rX0_wallsBecome_9, rX0_wallsBecome_12, rX0_wallsBecome_17, rX0_wallsBecome_20, rX0_wallsBecome_21, rX0_wallsBecome_24, rX0_wallsBecome_25, rX0_wallsBecome_30, rX0_wallsBecome_30_n, rX0_wallsBecome_33_v, rX0_wallsBecome_36, rX0_wallsBecome_39, psh_some, psh_none, bnd_r1, bnd_r0, b01_0, b01_1, lg_lt, lg_eq, lg_gt, lg_ge, lg_le, reduceIte, Bool.false_eq_true, and_true, true_and, and_false, false_and, not_true_eq_false, not_false_eq_true, eq_self, nI_add, nI_mul, nI_div, nI_irm, nI_subk, inb_ok, ix_ok, nI_lt_t, nI_lt_f, nI_le_t, nI_le_f, nI_eq_t, nI_eq_f, nI_z, ifb, ifbn, b01_bI, b01_n, Nat.reduceEqDiff, nl_l, nl_n, nl_i, nl_r, Bool.true_eq_false, reduceIte, if_true, if_false, ok0_0, ok0_1, ok0_2, ok0_3, ok0_4, ok0_5, ok0_6, ok0_7, ok0_8, ok0_9, ok0_10, ok0_11, ok0_12, ok0_13, ok0_14, ok0_15, ok0_16, ok0_17, ok0_18, ok0_19, ok0_20, ok0_21, ok0_22, ok0_23, ok0_24, ok0_25, ok0_26, ok0_27, ok0_28, ok0_29, ok0_30, ok0_31, ok0_32, ok0_33, ok0_34, ok0_35, ok0_36, ok0_37, ok0_38, ok0_39, ok0_40, ok0_41, ok0_42, ok0_43, ok0_44, ok0_45, ok0_46, ok0_47, ok0_48, ok0_49, ok0_50, ok0_51, ok0_52, ok0_53, ok0_54, ok1_141, ok2_55, ok2_56, ok2_57, ok2_58, ok2_59, ok2_60, ok2_61, ok2_62, ok2_63, ok2_64, ok2_65, ok2_66, ok2_67, ok2_68, ok2_69, ok2_70, ok2_71, ok2_72, ok2_73, ok2_74, ok2_75, ok2_76, ok2_77, ok2_78, ok2_79, ok2_80, ok2_81, ok2_82, ok2_83, ok2_84, ok2_85, ok2_86, ok2_87, ok2_88, ok2_89, ok2_90, ok2_91, ok2_92, ok2_93, ok2_94, ok2_95, ok2_96, ok2_97, ok2_98, ok2_99, ok2_100, ok2_101, ok2_102, ok2_103, ok2_104, ok2_105, ok2_106, ok2_107, ok2_108, ok2_109, ok2_110, ok2_111, ok2_112, ok2_113, ok2_114, ok2_115, ok2_116, ok2_117, ok2_118, ok2_119, ok2_120, ok2_121, ok2_122, ok2_123, ok2_124, ok2_125, ok2_126, ok2_127, ok2_128, ok2_129, ok2_130, ok2_131, ok2_132, ok2_133, ok2_134, ok2_135, ok2_136, ok2_137, ok3_171, ok3_172, ok3_173, ok3_174, ok3_175, ok3_176, ok4_171, ok4_172, ok4_173, ok4_174, ok4_175, ok4_176, ok4_177, ok4_178, ok5_171, ok5_172, ok5_173, ok5_174, ok5_175, ok5_176, ok5_177, ok5_178, ok5_179, ok7_142, ok7_143, ok7_144, ok7_145, ok7_146, ok7_147, ok7_148, ok7_149, ok7_152, ok7_153, ok7_154, ok8_142, ok8_143, ok8_144, ok8_145, ok8_146, ok8_147, ok8_148, ok8_149, ok8_152, ok8_153, ok8_154, ok8_155, ok9_142, ok9_143, ok9_144, ok9_145, ok9_146, ok9_147, ok9_148, ok9_149, ok9_152, ok9_153, ok9_154, ok9_155, ok9_180, ok10_142, ok10_143, ok10_144, ok10_145, ok10_146, ok10_147, ok10_148, ok10_149, ok10_150, ok10_151, ok11_142, ok11_143, ok11_144, ok11_145, ok11_146, ok11_147, ok11_148, ok11_149, ok11_152, ok11_153, ok11_154, ok11_155, ok11_156, ok11_157, ok13_158, ok13_159, ok13_160, ok13_161, ok13_162, ok13_163, ok13_164, ok13_165, ok13_166, ok13_167, ok13_168, ok13_169, ok13_170, ok16_138, ok16_139, ok16_140, ct_a, ct_a5, ct_b, ct_c, ct_d, ct_r50, ct_r51, ct_r52, ct_r53, ct_r54, xs_T, xsR_5, xsT_4, xsL_4, xsR_6, xsT_5, xsL_5, xsR_7, xsT_6, xsL_6, xsR_8, xsT_7, xsL_7, xsR_9, xsT_8, xsL_8, xsR_10, xsT_9, xsL_9, xsR_14, xsT_10, xsL_10, xsR_17, xsT_11, xsL_11, xsR_18, xsT_12, xsL_12, xsR_24, xsT_13, xsL_13, xsR_25, xsT_14, xsL_14, xsR_26, xsT_24, xsL_24, xsR_28, xsT_106, xsL_106, xsR_34, xsT_107, xsL_107, xsR_41, xsT_108, xsL_108, xsR_42, xsT_109, xsL_109, xsR_43, xsT_110, xsL_110, xsR_44, xsT_111, xsL_111, xsR_46, xsT_112, xsL_112, xsR_52, xsT_121, xsL_121, xsR_53, xsT_122, xsL_122, xsR_54, xsT_131, xsL_131, a1, hT5, hsz, hgt, htg, hmk]
      refine ih H ⟨a1, ⟨v, vN, ⟨vT, vL⟩, vR, vI, vJ, vJ2, vG⟩, a3, fun j hj q => ?_⟩
      by_cases z : j = m
      · subst z; exact absurd q q4
      · exact a4 j (by omega) q
  · rintro H ⟨a1, a2, a3, a4⟩
    have hW := a2
    obtain ⟨v, vN, ⟨vT, vL⟩, vR, vI, vJ, vJ2, vG⟩ := a2
    have hTL : ∀ a, a < hN G → hT H a = hT G a ∧ hL H a = hL G a := fun a _ => by rw [vT, vL]; exact ⟨rfl, rfl⟩
    have hLS : LSt H 6 (s 0 3) em := b6.of (by omega) hTL (vI _ _ (by decide)) (vR _ _) b2
    have hsz := c_size (d := d - 1) hLS
    have hT5 := hLS.1
    obtain ⟨M, hch, k, hcc⟩ := x_chg (d := d - 1) a1
    have hDK : DK s' w et em rt rm H := by
      refine ⟨a1, by omega, ?_, ⟨by rw [hz2]; exact b4.of (by omega) hTL (vI _ _ (by decide)) (vR _ _) b2, fun t ht => ?_⟩, ⟨by rw [hz3]; exact hLS, fun m hm => ?_⟩, b8, b9⟩
      · obtain ⟨c1, c2, c3, c4, c5, c6, c7, c8, c9, c10⟩ := b3
        unfold CR
        rw [hA 0 (by decide), hA 26 (by decide), hA 8 (by decide), hA 15 (by decide), hA 16 (by decide), hA 17 (by decide)]
        exact ⟨(vI _ _ (by decide)).trans c1, (vI _ _ (by decide)).trans c2, a3, (vI _ _ (by decide)).trans c4, (vI _ _ (by decide)).trans c5, (vI _ _ (by decide)).trans c6, (vI _ _ (by decide)).trans c7, (vI _ _ (by decide)).trans c8, fun t ht => (vI _ _ (by decide)).trans (c9 t ht), fun j hj => ⟨(vI _ _ (by decide)).trans (c10 j hj).1, (vI _ _ (by decide)).trans (c10 j hj).2.1, (vI _ _ (by decide)).trans (c10 j hj).2.2⟩⟩
      · rw [hz2] at ht
        obtain ⟨c1, c2, c3, c4⟩ := b5 t ht
        have hb := hTB t ht
        have hTt := c2.2.2.1
        have h184 := c2.1
        have hib : inbox s' t = inbox s t := by funext c; unfold inbox; rw [hA 4 (by decide)]
        exact ⟨(vR _ _).trans c1, TH.wl hA (c2.lv hb v he50 hf50), by rw [hib, vJ2 _ _ h184 (by omega)]; exact c3, by rw [hA 5 (by decide), vI _ _ (by omega)]; exact c4⟩
      · rw [hz3] at hm
        obtain ⟨c1, c2, c3, c4⟩ := b7 m hm
        have hk4 := (hB m hm).2
        have h184 := c2.1
        refine ⟨(vR _ _).trans c1, ME.wl hA (c2.lv hk4 v he50 hf50), ?_, by rw [hA 14 (by decide), vI _ _ (by omega)]; exact c4⟩
        by_cases q : s 9 m = 4
        · exact a4 m hm q
        · have := MR.lv c2 (c3 q) (by omega) v
          unfold MR
          rw [kpt_w hA q hk4]
          exact this
    refine ⟨H, M, ?_, hDK.sx k (by decide), hcc, hW, k⟩
    rw [rX0_wallsBecome_7]
    simp (disch := omega) only [rX0_wallsBecome_8, rX0_wallsBecome_9, rX0_wallsBecome_12, rX0_wallsBecome_17, rX0_wallsBecome_42, rX0_wallsBecome_43, rX0_wallsBecome_46, psh_some, psh_none, bnd_r1, bnd_r0, b01_0, b01_1, lg_lt, lg_eq, lg_gt, lg_ge, lg_le, reduceIte, Bool.false_eq_true, and_true, true_and, and_false, false_and, not_true_eq_false, not_false_eq_true, eq_self, nI_add, nI_mul, nI_div, nI_irm, nI_subk, inb_ok, ix_ok, nI_lt_t, nI_lt_f, nI_le_t, nI_le_f, nI_eq_t, nI_eq_f, nI_z, ifb, ifbn, b01_bI, b01_n, Nat.reduceEqDiff, nl_l, nl_n, nl_i, nl_r, Bool.true_eq_false, reduceIte, if_true, if_false, ok0_0, ok0_1, ok0_2, ok0_3, ok0_4, ok0_5, ok0_6, ok0_7, ok0_8, ok0_9, ok0_10, ok0_11, ok0_12, ok0_13, ok0_14, ok0_15, ok0_16, ok0_17, ok0_18, ok0_19, ok0_20, ok0_21, ok0_22, ok0_23, ok0_24, ok0_25, ok0_26, ok0_27, ok0_28, ok0_29, ok0_30, ok0_31, ok0_32, ok0_33, ok0_34, ok0_35, ok0_36, ok0_37, ok0_38, ok0_39, ok0_40, ok0_41, ok0_42, ok0_43, ok0_44, ok0_45, ok0_46, ok0_47, ok0_48, ok0_49, ok0_50, ok0_51, ok0_52, ok0_53, ok0_54, ok1_141, ok2_55, ok2_56, ok2_57, ok2_58, ok2_59, ok2_60, ok2_61, ok2_62, ok2_63, ok2_64, ok2_65, ok2_66, ok2_67, ok2_68, ok2_69, ok2_70, ok2_71, ok2_72, ok2_73, ok2_74, ok2_75, ok2_76, ok2_77, ok2_78, ok2_79, ok2_80, ok2_81, ok2_82, ok2_83, ok2_84, ok2_85, ok2_86, ok2_87, ok2_88, ok2_89, ok2_90, ok2_91, ok2_92, ok2_93, ok2_94, ok2_95, ok2_96, ok2_97, ok2_98, ok2_99, ok2_100, ok2_101, ok2_102, ok2_103, ok2_104, ok2_105, ok2_106, ok2_107, ok2_108, ok2_109, ok2_110, ok2_111, ok2_112, ok2_113, ok2_114, ok2_115, ok2_116, ok2_117, ok2_118, ok2_119, ok2_120, ok2_121, ok2_122, ok2_123, ok2_124, ok2_125, ok2_126, ok2_127, ok2_128, ok2_129, ok2_130, ok2_131, ok2_132, ok2_133, ok2_134, ok2_135, ok2_136, ok2_137, ok3_171, ok3_172, ok3_173, ok3_174, ok3_175, ok3_176, ok4_171, ok4_172, ok4_173, ok4_174, ok4_175, ok4_176, ok4_177, ok4_178, ok5_171, ok5_172, ok5_173, ok5_174, ok5_175, ok5_176, ok5_177, ok5_178, ok5_179, ok7_142, ok7_143, ok7_144, ok7_145, ok7_146, ok7_147, ok7_148, ok7_149, ok7_152, ok7_153, ok7_154, ok8_142, ok8_143, ok8_144, ok8_145, ok8_146, ok8_147, ok8_148, ok8_149, ok8_152, ok8_153, ok8_154, ok8_155, ok9_142, ok9_143, ok9_144, ok9_145, ok9_146, ok9_147, ok9_148, ok9_149, ok9_152, ok9_153, ok9_154, ok9_155, ok9_180, ok10_142, ok10_143, ok10_144, ok10_145, ok10_146, ok10_147, ok10_148, ok10_149, ok10_150, ok10_151, ok11_142, ok11_143, ok11_144, ok11_145, ok11_146, ok11_147, ok11_148, ok11_149, ok11_152, ok11_153, ok11_154, ok11_155, ok11_156, ok11_157, ok13_158, ok13_159, ok13_160, ok13_161, ok13_162, ok13_163, ok13_164, ok13_165, ok13_166, ok13_167, ok13_168, ok13_169, ok13_170, ok16_138, ok16_139, ok16_140, ct_a, ct_a5, ct_b, ct_c, ct_d, ct_r50, ct_r51, ct_r52, ct_r53, ct_r54, xs_T, xsR_5, xsT_4, xsL_4, xsR_6, xsT_5, xsL_5, xsR_7, xsT_6, xsL_6, xsR_8, xsT_7, xsL_7, xsR_9, xsT_8, xsL_8, xsR_10, xsT_9, xsL_9, xsR_14, xsT_10, xsL_10, xsR_17, xsT_11, xsL_11, xsR_18, xsT_12, xsL_12, xsR_24, xsT_13, xsL_13, xsR_25, xsT_14, xsL_14, xsR_26, xsT_24, xsL_24, xsR_28, xsT_106, xsL_106, xsR_34, xsT_107, xsL_107, xsR_41, xsT_108, xsL_108, xsR_42, xsT_109, xsL_109, xsR_43, xsT_110, xsL_110, xsR_44, xsT_111, xsL_111, xsR_46, xsT_112, xsL_112, xsR_52, xsT_121, xsL_121, xsR_53, xsT_122, xsL_122, xsR_54, xsT_131, xsL_131, a1, hT5, hsz, hch]
/-- what is beyond the desk, when the walls change -/
theorem Wl.cx (hSI : SI s) (hD : DKs s w et em rt rm G) (hX : CX s h et em G) (k : Wl et em G H) (k2 : Sx [] [11, 12, 47] H G') : CX s h et em G' := by
  obtain ⟨b1, b2, b3, ⟨b4, b5⟩, ⟨b6, b7⟩, b8, b9⟩ := hD
  have he50 : et = 1 ∨ hT G et = 50 := by have := b4.2.2.2.2.2.1; omega
  have hf50 : em = 1 ∨ hT G em = 50 := by have := b6.2.2.2.2.2.1; omega
  have hlt1 := b4.2.2.2.2.2.2.2.1
  have hlt2 := b6.2.2.2.2.2.2.2.1
  obtain ⟨v, vN, ⟨vT, vL⟩, vR, vI, vJ, vJ2, vG⟩ := k
  have v2 : Lv et em G G' := v.trans (k2.lv (fun _ q => absurd q List.not_mem_nil)) (Or.inl rfl) (Or.inr (Or.inl rfl))
  have hI3 : ∀ i, (i = 29 ∨ i = 30 ∨ i = 31 ∨ i = 32 ∨ i = 27) → hI G' 3 i = hI G 3 i := fun i hi => (k2.2.1 3 i List.not_mem_nil (by simp; omega)).trans (vI 3 i (by decide))
  have hRR : ∀ a i, hR G' a i = hR G a i := fun a i => by rw [k2.1.2.2.2.2.2]; exact vR a i
  have hX0 := hX
  obtain ⟨⟨a, b, c, e, a1, a2, a3, a4, a5, a6, a7, a8⟩, c2, -, -, -, n1, n2⟩ := hX
  refine hX0.lv hSI b2 he50 hf50 hlt1 hlt2 v2 ⟨a, b, c, e, a1, a2, a3, a4, (hI3 _ (by omega)).trans a5, (hI3 _ (by omega)).trans a6, (hI3 _ (by omega)).trans a7, (hI3 _ (by omega)).trans a8⟩ ((hI3 _ (by omega)).trans c2) (fun j _ => hRR _ _) (fun j _ => hRR _ _) (fun j _ => hRR _ _) ?_ (Or.inl rfl) (Or.inl rfl) (by rw [k2.1.2.2.2.2.1, vL]; exact Nat.le_refl _) (by rw [k2.1.2.2.2.2.1, vL]; exact Nat.le_refl _)
  rw [k2.1.1, vN]
  exact ⟨n1.of (by rw [k2.1.2.2.2.1, vT]), n2.of (by rw [k2.1.2.2.2.1, vT])⟩
theorem Wl.fq (k : Wl et em G H) (k2 : Sx [] [11, 12, 47] H G') : Fq 0 0 G G' := by
  obtain ⟨v, vN, ⟨vT, vL⟩, vR, vI, vJ, vJ2, vG⟩ := k
  obtain ⟨⟨k1, k2', k3, k4, k5, k6⟩, k7, k8⟩ := k2
  refine ⟨⟨by omega, fun a ha => ⟨by rw [k4, vT], by rw [k5, vL], fun i => by rw [k6]; exact vR a i, fun i => (k7 a i List.not_mem_nil (by omega)).trans (vI a i (by omega)), fun i => (k8 a i List.not_mem_nil (by omega)).trans (vJ a i (by omega) (by omega) (by omega))⟩⟩, ?_⟩
  have q1 := vG
  exact ⟨by rw [k2']; exact q1.1, by rw [k2']; exact q1.2.1, by rw [k3]; exact q1.2.2.1, by rw [k3]; exact q1.2.2.2⟩
theorem agX_w (hA : ∀ c, c ≠ 1 → s' c = s c) : AgX s s' := ⟨hA _ (by decide), hA _ (by decide), hA _ (by decide), hA _ (by decide), hA _ (by decide), hA _ (by decide), hA _ (by decide), hA _ (by decide), fun k => by
  funext f i
  unfold img
  rw [hA _ (by omega)]⟩
theorem SB.wall {c v : Nat} (hS : SB s) (hc : isC s c = true) (hv : v ≤ 1) (ha : v = 1 → anch s c = false) : SB (up s 1 c v) := by
  have e : ∀ g, g ≠ 1 → up s 1 c v g = s g := fun g hg => up_ne hg
  have hic : isC (up s 1 c v) = isC s := isC_agr (by rw [e 0 (by decide)]) (by rw [e 0 (by decide)])
  obtain ⟨h1, h2, h3, h4, h5, h6, h7⟩ := hS
  unfold SB
  rw [hic, e 0 (by decide), e 2 (by decide), e 3 (by decide), e 4 (by decide), e 5 (by decide), e 6 (by decide), e 7 (by decide), e 8 (by decide), e 9 (by decide), e 10 (by decide), e 11 (by decide), e 12 (by decide), e 13 (by decide), e 14 (by decide), e 15 (by decide), e 16 (by decide), e 17 (by decide), e 26 (by decide)]
  refine ⟨h1, fun z hz => ?_, fun t ht => ?_, h4, h5, h6, h7⟩
  · unfold up
    by_cases q : z = c
    · rw [if_pos ⟨rfl, q⟩]
      exact ⟨hv, fun _ => by rw [q]; exact hc⟩
    · rw [if_neg (fun y => q y.2)]
      exact h2 z hz
  · obtain ⟨q1, q2, q3, q4⟩ := h3 t ht
    refine ⟨q1, q2, fun z => ?_, q4⟩
    obtain ⟨y1, y2⟩ := q3 z
    refine ⟨y1, ?_⟩
    rw [fre_iff] at y2 ⊢
    refine ⟨by rw [hic]; exact y2.1, ?_⟩
    unfold up
    by_cases q : s 3 t = c
    · rw [if_pos ⟨rfl, q⟩]
      rcases (show v = 0 ∨ v = 1 by omega) with hv0 | hv1
      · exact hv0
      · have hno := ha hv1
        have hyes : anch s c = true := by
          unfold anch
          rw [List.any_eq_true]
          exact ⟨t, List.mem_range.mpr ht, by rw [decide_eq_true z, decide_eq_true q]; rfl⟩
        rw [hyes] at hno
        cases hno
    · rw [if_neg (fun y => q y.2)]
      exact y2.2
theorem otA_anch {c : Nat} : otA s (fun _ => false) (s 0 2) c = anch s c := by
  unfold otA anch
  simp only [Bool.not_false, Bool.and_true]
theorem xo_wall {x : Int32} {b : Bool} (hSI : SI s) (hd : 20 ≤ d) : XO d 6 [vi x, vi (bI b)] s h w (vi (aWall s x b)) (sWall s x b) h w := fun G hIn => by
  have hIn2 := hIn
  obtain ⟨et, em, rt, rm, hD, hC, hX⟩ := hIn
  have hS := hSI.1
  have h0 := hS.1
  have hXs := hD.1
  have hc1 := x_isCell (d := d - 1) (x := x) hD hS (by omega)
  have hkn := x_known (d := d - 1) (P := fun _ => false) hD hS (by omega)
  rw [show w3 (fun _ => false) = nI 0 from w3_0] at hkn
  have hbn := bN_le (b := b)
  rw [en6, bI_bN]
  unfold aWall sWall
  cases q1 : cel s x with
  | false =>
    rw [q1] at hc1
    rw [if_neg (by decide), if_neg (fun q => absurd q.1 (by decide))]
    refine ⟨G, ?_, Fx.refl G, hIn2⟩
    simp (disch := omega) only [rX0_wall_0, rX0_wall_1, rX0_wall_2, rX0_wall_5, rX0_wall_8, rX0_wall_9, psh_some, psh_none, bnd_r1, bnd_r0, b01_0, b01_1, lg_lt, lg_eq, lg_gt, lg_ge, lg_le, reduceIte, Bool.false_eq_true, and_true, true_and, and_false, false_and, not_true_eq_false, not_false_eq_true, eq_self, nI_add, nI_mul, nI_div, nI_irm, nI_subk, inb_ok, ix_ok, nI_lt_t, nI_lt_f, nI_le_t, nI_le_f, nI_eq_t, nI_eq_f, nI_z, ifb, ifbn, b01_bI, b01_n, Nat.reduceEqDiff, nl_l, nl_n, nl_i, nl_r, Bool.true_eq_false, reduceIte, if_true, if_false, ok0_0, ok0_1, ok0_2, ok0_3, ok0_4, ok0_5, ok0_6, ok0_7, ok0_8, ok0_9, ok0_10, ok0_11, ok0_12, ok0_13, ok0_14, ok0_15, ok0_16, ok0_17, ok0_18, ok0_19, ok0_20, ok0_21, ok0_22, ok0_23, ok0_24, ok0_25, ok0_26, ok0_27, ok0_28, ok0_29, ok0_30, ok0_31, ok0_32, ok0_33, ok0_34, ok0_35, ok0_36, ok0_37, ok0_38, ok0_39, ok0_40, ok0_41, ok0_42, ok0_43, ok0_44, ok0_45, ok0_46, ok0_47, ok0_48, ok0_49, ok0_50, ok0_51, ok0_52, ok0_53, ok0_54, ok1_141, ok2_55, ok2_56, ok2_57, ok2_58, ok2_59, ok2_60, ok2_61, ok2_62, ok2_63, ok2_64, ok2_65, ok2_66, ok2_67, ok2_68, ok2_69, ok2_70, ok2_71, ok2_72, ok2_73, ok2_74, ok2_75, ok2_76, ok2_77, ok2_78, ok2_79, ok2_80, ok2_81, ok2_82, ok2_83, ok2_84, ok2_85, ok2_86, ok2_87, ok2_88, ok2_89, ok2_90, ok2_91, ok2_92, ok2_93, ok2_94, ok2_95, ok2_96, ok2_97, ok2_98, ok2_99, ok2_100, ok2_101, ok2_102, ok2_103, ok2_104, ok2_105, ok2_106, ok2_107, ok2_108, ok2_109, ok2_110, ok2_111, ok2_112, ok2_113, ok2_114, ok2_115, ok2_116, ok2_117, ok2_118, ok2_119, ok2_120, ok2_121, ok2_122, ok2_123, ok2_124, ok2_125, ok2_126, ok2_127, ok2_128, ok2_129, ok2_130, ok2_131, ok2_132, ok2_133, ok2_134, ok2_135, ok2_136, ok2_137, ok3_171, ok3_172, ok3_173, ok3_174, ok3_175, ok3_176, ok4_171, ok4_172, ok4_173, ok4_174, ok4_175, ok4_176, ok4_177, ok4_178, ok5_171, ok5_172, ok5_173, ok5_174, ok5_175, ok5_176, ok5_177, ok5_178, ok5_179, ok7_142, ok7_143, ok7_144, ok7_145, ok7_146, ok7_147, ok7_148, ok7_149, ok7_152, ok7_153, ok7_154, ok8_142, ok8_143, ok8_144, ok8_145, ok8_146, ok8_147, ok8_148, ok8_149, ok8_152, ok8_153, ok8_154, ok8_155, ok9_142, ok9_143, ok9_144, ok9_145, ok9_146, ok9_147, ok9_148, ok9_149, ok9_152, ok9_153, ok9_154, ok9_155, ok9_180, ok10_142, ok10_143, ok10_144, ok10_145, ok10_146, ok10_147, ok10_148, ok10_149, ok10_150, ok10_151, ok11_142, ok11_143, ok11_144, ok11_145, ok11_146, ok11_147, ok11_148, ok11_149, ok11_152, ok11_153, ok11_154, ok11_155, ok11_156, ok11_157, ok13_158, ok13_159, ok13_160, ok13_161, ok13_162, ok13_163, ok13_164, ok13_165, ok13_166, ok13_167, ok13_168, ok13_169, ok13_170, ok16_138, ok16_139, ok16_140, ct_a, ct_a5, ct_b, ct_c, ct_d, ct_r50, ct_r51, ct_r52, ct_r53, ct_r54, xs_T, xsR_5, xsT_4, xsL_4, xsR_6, xsT_5, xsL_5, xsR_7, xsT_6, xsL_6, xsR_8, xsT_7, xsL_7, xsR_9, xsT_8, xsL_8, xsR_10, xsT_9, xsL_9, xsR_14, xsT_10, xsL_10, xsR_17, xsT_11, xsL_11, xsR_18, xsT_12, xsL_12, xsR_24, xsT_13, xsL_13, xsR_25, xsT_14, xsL_14, xsR_26, xsT_24, xsL_24, xsR_28, xsT_106, xsL_106, xsR_34, xsT_107, xsL_107, xsR_41, xsT_108, xsL_108, xsR_42, xsT_109, xsL_109, xsR_43, xsT_110, xsL_110, xsR_44, xsT_111, xsL_111, xsR_46, xsT_112, xsL_112, xsR_52, xsT_121, xsL_121, xsR_53, xsT_122, xsL_122, xsR_54, xsT_131, xsL_131, hXs, hc1]
  | true =>
    rw [q1] at hc1
    obtain ⟨c, hc, rfl, hcc⟩ := cel_of q1
    rw [if_pos rfl, ix_ok (by omega)]
    have ho1 := x_onW (d := d - 1) (G := G) (p := otA s (fun _ => false) (s 0 2)) hc
    rw [otA_anch] at ho1
    cases q2 : anch s c with
    | true =>
      rw [q2] at ho1
      rw [if_pos rfl, if_neg (fun q => absurd q.2 (by decide))]
      refine ⟨G, ?_, Fx.refl G, hIn2⟩
      simp (disch := omega) only [rX0_wall_0, rX0_wall_1, rX0_wall_2, rX0_wall_5, rX0_wall_8, rX0_wall_9, rX0_wall_10, rX0_wall_11, rX0_wall_12, rX0_wall_15, rX0_wall_16, rX0_wall_19, rX0_wall_22, rX0_wall_24, psh_some, psh_none, bnd_r1, bnd_r0, b01_0, b01_1, lg_lt, lg_eq, lg_gt, lg_ge, lg_le, reduceIte, Bool.false_eq_true, and_true, true_and, and_false, false_and, not_true_eq_false, not_false_eq_true, eq_self, nI_add, nI_mul, nI_div, nI_irm, nI_subk, inb_ok, ix_ok, nI_lt_t, nI_lt_f, nI_le_t, nI_le_f, nI_eq_t, nI_eq_f, nI_z, ifb, ifbn, b01_bI, b01_n, Nat.reduceEqDiff, nl_l, nl_n, nl_i, nl_r, Bool.true_eq_false, reduceIte, if_true, if_false, ok0_0, ok0_1, ok0_2, ok0_3, ok0_4, ok0_5, ok0_6, ok0_7, ok0_8, ok0_9, ok0_10, ok0_11, ok0_12, ok0_13, ok0_14, ok0_15, ok0_16, ok0_17, ok0_18, ok0_19, ok0_20, ok0_21, ok0_22, ok0_23, ok0_24, ok0_25, ok0_26, ok0_27, ok0_28, ok0_29, ok0_30, ok0_31, ok0_32, ok0_33, ok0_34, ok0_35, ok0_36, ok0_37, ok0_38, ok0_39, ok0_40, ok0_41, ok0_42, ok0_43, ok0_44, ok0_45, ok0_46, ok0_47, ok0_48, ok0_49, ok0_50, ok0_51, ok0_52, ok0_53, ok0_54, ok1_141, ok2_55, ok2_56, ok2_57, ok2_58, ok2_59, ok2_60, ok2_61, ok2_62, ok2_63, ok2_64, ok2_65, ok2_66, ok2_67, ok2_68, ok2_69, ok2_70, ok2_71, ok2_72, ok2_73, ok2_74, ok2_75, ok2_76, ok2_77, ok2_78, ok2_79, ok2_80, ok2_81, ok2_82, ok2_83, ok2_84, ok2_85, ok2_86, ok2_87, ok2_88, ok2_89, ok2_90, ok2_91, ok2_92, ok2_93, ok2_94, ok2_95, ok2_96, ok2_97, ok2_98, ok2_99, ok2_100, ok2_101, ok2_102, ok2_103, ok2_104, ok2_105, ok2_106, ok2_107, ok2_108, ok2_109, ok2_110, ok2_111, ok2_112, ok2_113, ok2_114, ok2_115, ok2_116, ok2_117, ok2_118, ok2_119, ok2_120, ok2_121, ok2_122, ok2_123, ok2_124, ok2_125, ok2_126, ok2_127, ok2_128, ok2_129, ok2_130, ok2_131, ok2_132, ok2_133, ok2_134, ok2_135, ok2_136, ok2_137, ok3_171, ok3_172, ok3_173, ok3_174, ok3_175, ok3_176, ok4_171, ok4_172, ok4_173, ok4_174, ok4_175, ok4_176, ok4_177, ok4_178, ok5_171, ok5_172, ok5_173, ok5_174, ok5_175, ok5_176, ok5_177, ok5_178, ok5_179, ok7_142, ok7_143, ok7_144, ok7_145, ok7_146, ok7_147, ok7_148, ok7_149, ok7_152, ok7_153, ok7_154, ok8_142, ok8_143, ok8_144, ok8_145, ok8_146, ok8_147, ok8_148, ok8_149, ok8_152, ok8_153, ok8_154, ok8_155, ok9_142, ok9_143, ok9_144, ok9_145, ok9_146, ok9_147, ok9_148, ok9_149, ok9_152, ok9_153, ok9_154, ok9_155, ok9_180, ok10_142, ok10_143, ok10_144, ok10_145, ok10_146, ok10_147, ok10_148, ok10_149, ok10_150, ok10_151, ok11_142, ok11_143, ok11_144, ok11_145, ok11_146, ok11_147, ok11_148, ok11_149, ok11_152, ok11_153, ok11_154, ok11_155, ok11_156, ok11_157, ok13_158, ok13_159, ok13_160, ok13_161, ok13_162, ok13_163, ok13_164, ok13_165, ok13_166, ok13_167, ok13_168, ok13_169, ok13_170, ok16_138, ok16_139, ok16_140, ct_a, ct_a5, ct_b, ct_c, ct_d, ct_r50, ct_r51, ct_r52, ct_r53, ct_r54, xs_T, xsR_5, xsT_4, xsL_4, xsR_6, xsT_5, xsL_5, xsR_7, xsT_6, xsL_6, xsR_8, xsT_7, xsL_7, xsR_9, xsT_8, xsL_8, xsR_10, xsT_9, xsL_9, xsR_14, xsT_10, xsL_10, xsR_17, xsT_11, xsL_11, xsR_18, xsT_12, xsL_12, xsR_24, xsT_13, xsL_13, xsR_25, xsT_14, xsL_14, xsR_26, xsT_24, xsL_24, xsR_28, xsT_106, xsL_106, xsR_34, xsT_107, xsL_107, xsR_41, xsT_108, xsL_108, xsR_42, xsT_109, xsL_109, xsR_43, xsT_110, xsL_110, xsR_44, xsT_111, xsL_111, xsR_46, xsT_112, xsL_112, xsR_52, xsT_121, xsL_121, xsR_53, xsT_122, xsL_122, xsR_54, xsT_131, xsL_131, hXs, hc1, hkn, ho1]
    | false =>
      rw [q2] at ho1
      rw [if_neg (show ¬ false = true by decide), if_pos (show true = true ∧ false = false from ⟨rfl, rfl⟩)]
      have hw := dk_walls hD
      have ho2 := x_onW (d := d - 1) (G := G) (p := fun c => decide (s 1 c = 1)) hc
      have hb1 := (hS.2.1 c hc).1
      have e2 : bI (decide (s 1 c = 1)) = nI (s 1 c) := by
        rcases (show s 1 c = 0 ∨ s 1 c = 1 by omega) with q | q <;> rw [q] <;> rfl
      rw [e2] at ho2
      by_cases q3 : s 1 c = bN b
      · rw [if_pos q3]
        have hs : up s 1 c (bN b) = s := by
          funext g i
          unfold up
          by_cases q : g = 1 ∧ i = c
          · rw [if_pos q, q.1, q.2, q3]
          · rw [if_neg q]
        rw [hs]
        refine ⟨G, ?_, Fx.refl G, hIn2⟩
        simp (disch := omega) only [rX0_wall_0, rX0_wall_1, rX0_wall_2, rX0_wall_5, rX0_wall_8, rX0_wall_9, rX0_wall_10, rX0_wall_11, rX0_wall_12, rX0_wall_15, rX0_wall_16, rX0_wall_19, rX0_wall_22, rX0_wall_24, rX0_wall_25, rX0_wall_26, rX0_wall_29, rX0_wall_30, rX0_wall_33, rX0_wall_34, rX0_wall_37, rX0_wall_38, psh_some, psh_none, bnd_r1, bnd_r0, b01_0, b01_1, lg_lt, lg_eq, lg_gt, lg_ge, lg_le, reduceIte, Bool.false_eq_true, and_true, true_and, and_false, false_and, not_true_eq_false, not_false_eq_true, eq_self, nI_add, nI_mul, nI_div, nI_irm, nI_subk, inb_ok, ix_ok, nI_lt_t, nI_lt_f, nI_le_t, nI_le_f, nI_eq_t, nI_eq_f, nI_z, ifb, ifbn, b01_bI, b01_n, Nat.reduceEqDiff, nl_l, nl_n, nl_i, nl_r, Bool.true_eq_false, reduceIte, if_true, if_false, ok0_0, ok0_1, ok0_2, ok0_3, ok0_4, ok0_5, ok0_6, ok0_7, ok0_8, ok0_9, ok0_10, ok0_11, ok0_12, ok0_13, ok0_14, ok0_15, ok0_16, ok0_17, ok0_18, ok0_19, ok0_20, ok0_21, ok0_22, ok0_23, ok0_24, ok0_25, ok0_26, ok0_27, ok0_28, ok0_29, ok0_30, ok0_31, ok0_32, ok0_33, ok0_34, ok0_35, ok0_36, ok0_37, ok0_38, ok0_39, ok0_40, ok0_41, ok0_42, ok0_43, ok0_44, ok0_45, ok0_46, ok0_47, ok0_48, ok0_49, ok0_50, ok0_51, ok0_52, ok0_53, ok0_54, ok1_141, ok2_55, ok2_56, ok2_57, ok2_58, ok2_59, ok2_60, ok2_61, ok2_62, ok2_63, ok2_64, ok2_65, ok2_66, ok2_67, ok2_68, ok2_69, ok2_70, ok2_71, ok2_72, ok2_73, ok2_74, ok2_75, ok2_76, ok2_77, ok2_78, ok2_79, ok2_80, ok2_81, ok2_82, ok2_83, ok2_84, ok2_85, ok2_86, ok2_87, ok2_88, ok2_89, ok2_90, ok2_91, ok2_92, ok2_93, ok2_94, ok2_95, ok2_96, ok2_97, ok2_98, ok2_99, ok2_100, ok2_101, ok2_102, ok2_103, ok2_104, ok2_105, ok2_106, ok2_107, ok2_108, ok2_109, ok2_110, ok2_111, ok2_112, ok2_113, ok2_114, ok2_115, ok2_116, ok2_117, ok2_118, ok2_119, ok2_120, ok2_121, ok2_122, ok2_123, ok2_124, ok2_125, ok2_126, ok2_127, ok2_128, ok2_129, ok2_130, ok2_131, ok2_132, ok2_133, ok2_134, ok2_135, ok2_136, ok2_137, ok3_171, ok3_172, ok3_173, ok3_174, ok3_175, ok3_176, ok4_171, ok4_172, ok4_173, ok4_174, ok4_175, ok4_176, ok4_177, ok4_178, ok5_171, ok5_172, ok5_173, ok5_174, ok5_175, ok5_176, ok5_177, ok5_178, ok5_179, ok7_142, ok7_143, ok7_144, ok7_145, ok7_146, ok7_147, ok7_148, ok7_149, ok7_152, ok7_153, ok7_154, ok8_142, ok8_143, ok8_144, ok8_145, ok8_146, ok8_147, ok8_148, ok8_149, ok8_152, ok8_153, ok8_154, ok8_155, ok9_142, ok9_143, ok9_144, ok9_145, ok9_146, ok9_147, ok9_148, ok9_149, ok9_152, ok9_153, ok9_154, ok9_155, ok9_180, ok10_142, ok10_143, ok10_144, ok10_145, ok10_146, ok10_147, ok10_148, ok10_149, ok10_150, ok10_151, ok11_142, ok11_143, ok11_144, ok11_145, ok11_146, ok11_147, ok11_148, ok11_149, ok11_152, ok11_153, ok11_154, ok11_155, ok11_156, ok11_157, ok13_158, ok13_159, ok13_160, ok13_161, ok13_162, ok13_163, ok13_164, ok13_165, ok13_166, ok13_167, ok13_168, ok13_169, ok13_170, ok16_138, ok16_139, ok16_140, ct_a, ct_a5, ct_b, ct_c, ct_d, ct_r50, ct_r51, ct_r52, ct_r53, ct_r54, xs_T, xsR_5, xsT_4, xsL_4, xsR_6, xsT_5, xsL_5, xsR_7, xsT_6, xsL_6, xsR_8, xsT_7, xsL_7, xsR_9, xsT_8, xsL_8, xsR_10, xsT_9, xsL_9, xsR_14, xsT_10, xsL_10, xsR_17, xsT_11, xsL_11, xsR_18, xsT_12, xsL_12, xsR_24, xsT_13, xsL_13, xsR_25, xsT_14, xsL_14, xsR_26, xsT_24, xsL_24, xsR_28, xsT_106, xsL_106, xsR_34, xsT_107, xsL_107, xsR_41, xsT_108, xsL_108, xsR_42, xsT_109, xsL_109, xsR_43, xsT_110, xsL_110, xsR_44, xsT_111, xsL_111, xsR_46, xsT_112, xsL_112, xsR_52, xsT_121, xsL_121, xsR_53, xsT_122, xsL_122, xsR_54, xsT_131, xsL_131, hXs, hc1, hkn, ho1, hw, ho2]
      · rw [if_neg q3]
        have hS' : SB (up s 1 c (bN b)) := hS.wall hcc hbn (fun _ => q2)
        have hA : ∀ g, g ≠ 1 → up s 1 c (bN b) g = s g := fun g hg => up_ne hg
        obtain ⟨H, G', g1, g2, g3, g4, g5⟩ := x_wallsBecome (d := d - 1) hD.toS hS' hA (by omega)
        have hbit := x_bit (d := d - 1) (G := G) hc
        have hxor : wd (fun c => decide (s 1 c = 1)) ^^^ wd (fun e => e == c) = wd (fun e => decide (up s 1 c (bN b) 1 e = 1)) := by
          rw [wd_xor]
          refine wd_congr fun e _ => ?_
          unfold up
          by_cases q : e = c
          · rw [if_pos ⟨rfl, q⟩, q]
            rcases (show (s 1 c = 0 ∧ bN b = 1) ∨ (s 1 c = 1 ∧ bN b = 0) by omega) with ⟨y1, y2⟩ | ⟨y1, y2⟩ <;> rw [y1, y2] <;> simp
          · rw [if_neg (fun y => q y.2), show (e == c) = false by simpa using q, Bool.xor_false]
        refine ⟨G', ?_, (Wl.fq g4 g5).fx (by omega) (by omega), et, em, rt, rm, g2, g3 _, CX.ag (agX_w hA) (Wl.cx hSI hD.toS hX g4 g5)⟩
        simp (disch := omega) only [rX0_wall_0, rX0_wall_1, rX0_wall_2, rX0_wall_5, rX0_wall_8, rX0_wall_9, rX0_wall_10, rX0_wall_11, rX0_wall_12, rX0_wall_15, rX0_wall_16, rX0_wall_19, rX0_wall_22, rX0_wall_24, rX0_wall_25, rX0_wall_26, rX0_wall_29, rX0_wall_30, rX0_wall_33, rX0_wall_34, rX0_wall_39, rX0_wall_40, rX0_wall_41, rX0_wall_44, rX0_wall_45, rX0_wall_48, rX0_wall_49, rX0_wall_52, rX0_wall_53, psh_some, psh_none, bnd_r1, bnd_r0, b01_0, b01_1, lg_lt, lg_eq, lg_gt, lg_ge, lg_le, reduceIte, Bool.false_eq_true, and_true, true_and, and_false, false_and, not_true_eq_false, not_false_eq_true, eq_self, nI_add, nI_mul, nI_div, nI_irm, nI_subk, inb_ok, ix_ok, nI_lt_t, nI_lt_f, nI_le_t, nI_le_f, nI_eq_t, nI_eq_f, nI_z, ifb, ifbn, b01_bI, b01_n, Nat.reduceEqDiff, nl_l, nl_n, nl_i, nl_r, Bool.true_eq_false, reduceIte, if_true, if_false, ok0_0, ok0_1, ok0_2, ok0_3, ok0_4, ok0_5, ok0_6, ok0_7, ok0_8, ok0_9, ok0_10, ok0_11, ok0_12, ok0_13, ok0_14, ok0_15, ok0_16, ok0_17, ok0_18, ok0_19, ok0_20, ok0_21, ok0_22, ok0_23, ok0_24, ok0_25, ok0_26, ok0_27, ok0_28, ok0_29, ok0_30, ok0_31, ok0_32, ok0_33, ok0_34, ok0_35, ok0_36, ok0_37, ok0_38, ok0_39, ok0_40, ok0_41, ok0_42, ok0_43, ok0_44, ok0_45, ok0_46, ok0_47, ok0_48, ok0_49, ok0_50, ok0_51, ok0_52, ok0_53, ok0_54, ok1_141, ok2_55, ok2_56, ok2_57, ok2_58, ok2_59, ok2_60, ok2_61, ok2_62, ok2_63, ok2_64, ok2_65, ok2_66, ok2_67, ok2_68, ok2_69, ok2_70, ok2_71, ok2_72, ok2_73, ok2_74, ok2_75, ok2_76, ok2_77, ok2_78, ok2_79, ok2_80, ok2_81, ok2_82, ok2_83, ok2_84, ok2_85, ok2_86, ok2_87, ok2_88, ok2_89, ok2_90, ok2_91, ok2_92, ok2_93, ok2_94, ok2_95, ok2_96, ok2_97, ok2_98, ok2_99, ok2_100, ok2_101, ok2_102, ok2_103, ok2_104, ok2_105, ok2_106, ok2_107, ok2_108, ok2_109, ok2_110, ok2_111, ok2_112, ok2_113, ok2_114, ok2_115, ok2_116, ok2_117, ok2_118, ok2_119, ok2_120, ok2_121, ok2_122, ok2_123, ok2_124, ok2_125, ok2_126, ok2_127, ok2_128, ok2_129, ok2_130, ok2_131, ok2_132, ok2_133, ok2_134, ok2_135, ok2_136, ok2_137, ok3_171, ok3_172, ok3_173, ok3_174, ok3_175, ok3_176, ok4_171, ok4_172, ok4_173, ok4_174, ok4_175, ok4_176, ok4_177, ok4_178, ok5_171, ok5_172, ok5_173, ok5_174, ok5_175, ok5_176, ok5_177, ok5_178, ok5_179, ok7_142, ok7_143, ok7_144, ok7_145, ok7_146, ok7_147, ok7_148, ok7_149, ok7_152, ok7_153, ok7_154, ok8_142, ok8_143, ok8_144, ok8_145, ok8_146, ok8_147, ok8_148, ok8_149, ok8_152, ok8_153, ok8_154, ok8_155, ok9_142, ok9_143, ok9_144, ok9_145, ok9_146, ok9_147, ok9_148, ok9_149, ok9_152, ok9_153, ok9_154, ok9_155, ok9_180, ok10_142, ok10_143, ok10_144, ok10_145, ok10_146, ok10_147, ok10_148, ok10_149, ok10_150, ok10_151, ok11_142, ok11_143, ok11_144, ok11_145, ok11_146, ok11_147, ok11_148, ok11_149, ok11_152, ok11_153, ok11_154, ok11_155, ok11_156, ok11_157, ok13_158, ok13_159, ok13_160, ok13_161, ok13_162, ok13_163, ok13_164, ok13_165, ok13_166, ok13_167, ok13_168, ok13_169, ok13_170, ok16_138, ok16_139, ok16_140, ct_a, ct_a5, ct_b, ct_c, ct_d, ct_r50, ct_r51, ct_r52, ct_r53, ct_r54, xs_T, xsR_5, xsT_4, xsL_4, xsR_6, xsT_5, xsL_5, xsR_7, xsT_6, xsL_6, xsR_8, xsT_7, xsL_7, xsR_9, xsT_8, xsL_8, xsR_10, xsT_9, xsL_9, xsR_14, xsT_10, xsL_10, xsR_17, xsT_11, xsL_11, xsR_18, xsT_12, xsL_12, xsR_24, xsT_13, xsL_13, xsR_25, xsT_14, xsL_14, xsR_26, xsT_24, xsL_24, xsR_28, xsT_106, xsL_106, xsR_34, xsT_107, xsL_107, xsR_41, xsT_108, xsL_108, xsR_42, xsT_109, xsL_109, xsR_43, xsT_110, xsL_110, xsR_44, xsT_111, xsL_111, xsR_46, xsT_112, xsL_112, xsR_52, xsT_121, xsL_121, xsR_53, xsT_122, xsL_122, xsR_54, xsT_131, xsL_131, hXs, hc1, hkn, ho1, hw, ho2, eq_false q3, hbit, hxor, g1]
end
