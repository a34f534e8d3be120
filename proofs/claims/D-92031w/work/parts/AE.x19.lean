/-! the class: keep -/
section
variable {d k : Nat} {G H K : AH} {s σ σ' : SGT} {h : Nat → Nat → Int64} {w : Int32} {et em : Nat} {rt rm : Nat → Nat} {l f : List Nat} {c z : Nat}
theorem IMG.cg {x pt pm et' em' bx tr on mp mv : Nat} {rt' rm' : Nat → Nat} (hi : IMG σ x pt pm et' em' rt' rm' bx tr on mp mv G) (hg : ∀ g, g < 32 → g ≠ 5 → g ≠ 14 → σ' g = σ g) (h5 : ∀ t, t < σ 0 2 → σ' 5 t = σ 5 t) (h14 : ∀ m, m < σ 0 3 → σ' 14 m = σ 14 m) : IMG σ' x pt pm et' em' rt' rm' bx tr on mp mv G := by
  have e0 := hg 0 (by decide) (by decide) (by decide)
  have e1 := hg 1 (by decide) (by decide) (by decide)
  have e2 := hg 2 (by decide) (by decide) (by decide)
  have e3 := hg 3 (by decide) (by decide) (by decide)
  have e4 := hg 4 (by decide) (by decide) (by decide)
  have e6 := hg 6 (by decide) (by decide) (by decide)
  have e7 := hg 7 (by decide) (by decide) (by decide)
  have e8 := hg 8 (by decide) (by decide) (by decide)
  have e9 := hg 9 (by decide) (by decide) (by decide)
  have e10 := hg 10 (by decide) (by decide) (by decide)
  have e11 := hg 11 (by decide) (by decide) (by decide)
  have e12 := hg 12 (by decide) (by decide) (by decide)
  have e13 := hg 13 (by decide) (by decide) (by decide)
  have e15 := hg 15 (by decide) (by decide) (by decide)
  have e16 := hg 16 (by decide) (by decide) (by decide)
  have e17 := hg 17 (by decide) (by decide) (by decide)
  have e26 := hg 26 (by decide) (by decide) (by decide)
  have hk : kpt σ' = kpt σ := AgD.kptE (s := σ) (s' := σ') ⟨e0, e1, e2, e3, e4, e9, e10, e11, e12, e13⟩
  have hT' : ∀ t r, TH σ' t r G = TH σ t r G := fun t r => by unfold TH; rw [e2, e3, e6, e7]
  have hM' : ∀ m r, ME σ' m r G = ME σ m r G := fun m r => by unfold ME; rw [e9, e10, e11, e12, e13]
  have hR' : ∀ m r, MR σ' m r G = MR σ m r G := fun m r => by unfold MR; rw [hk]
  have hB' : ∀ t, inbox σ' t = inbox σ t := fun t => by funext c; unfold inbox; rw [e4]
  obtain ⟨i1, i2, i3, i4, i5, i6, ⟨v1, v2, v3, v4, v5⟩, ⟨w1, w2, w3', w4, w5⟩, i9, i10⟩ := hi
  unfold IMG
  rw [e0, e1, e26, e9, e8, e15, e16, e17]
  simp only [hT', hM', hR', hB']
  exact ⟨i1, i2, i3, i4, i5, i6, ⟨v1, v2, v3, v4, fun t ht => by rw [h5 t ht]; exact v5 t ht⟩, ⟨w1, w2, w3', w4, fun m hm => by rw [h14 m hm]; exact w5 m hm⟩, i9, i10⟩
/-- an image was kept -/
theorem CX.kp {x pt pm et' em' bx tr on mp mv : Nat} {rt' rm' : Nat → Nat} (hk : k < 2) (hSI : SI s) (hD : DK s w et em rt rm G) (hc : CX s h et em G) (hK : K = sR G 121 k (some x)) (hi : IMG s x pt pm et' em' rt' rm' bx tr on mp mv K) (q1 : et' = 1 ∨ (et' ≠ et ∧ et' ≠ em)) (q2 : em' = 1 ∨ (em' ≠ et ∧ em' ≠ em)) (q3 : bx ≠ tr) (q4 : et' = 1 ∨ et' ≠ em') (q5 : ∀ j, j < 4 → hR G (132 + j) 141 ≠ some bx ∧ hR G (132 + j) 141 ≠ some mp ∧ hR G (132 + j) 141 ≠ some mv) : CX (kpS s k) h et em K := by
  have h184 := hD.2.1
  have hS := hSI.1
  have v : Lv et em G K := by rw [hK]; exact Lv.ref (by decide)
  have kw : Wr 121 k G K := by rw [hK]; exact Wr.sR
  have hx : hR K 121 k = some x := by rw [hK, hR_sR, if_pos ⟨rfl, rfl⟩]
  clear hK
  have hn0 : img k (kpS s k) 0 2 = s 0 2 ∧ img k (kpS s k) 0 3 = s 0 3 := ⟨by rw [img_kpk (by decide)]; rfl, by rw [img_kpk (by decide)]; rfl⟩
  have hi' : IMG (img k (kpS s k)) x pt pm et' em' rt' rm' bx tr on mp mv K := hi.cg (fun g hg h5 h14 => by
    funext i
    rw [img_kpk hg, kpv_ne (by omega)]) (fun t ht => by
    rw [img_kpk (by decide)]
    exact bz_1 (hS.2.2.1 t ht).2.2.2.1) (fun m hm => by
    rw [img_kpk (by decide)]
    exact bz_1 (hS.2.2.2.2.2.1 m hm).2.2.2.2.2.2.1)
  obtain ⟨⟨a, b, c, e, f1, f2, f3, f4, f5, f6, f7, f8⟩, c2, ⟨rs, c3⟩, c4, c5, n1, n2⟩ := hc
  obtain ⟨k1, k2, k3, k4, k5, k6, k7⟩ := kw
  have z1 : s 0 2 ≤ hL K et := by rw [k6]; exact (dk_T hD).2.2.2.1
  have z2 : s 0 3 ≤ hL K em := by rw [k6]; exact (dk_M hD).2.2.2.1
  refine ⟨⟨a, b, c, e, f1, f2, f3, f4, (k1 _ _).trans f5, (k1 _ _).trans f6, (k1 _ _).trans f7, (k1 _ _).trans f8⟩, (k1 _ _).trans c2, ⟨rs, ?_⟩, fun j hj => ?_, fun j hj => ?_, ?_, ?_⟩
  · have := c3.lv v (fun j hj => k3 _ _ (by omega))
    unfold SHT
    rw [kpS_lo (by decide), kpS_lo (by decide)]
    exact this
  · have := (c4 j hj).lv v (dk_e50 hD) (dk_f50 hD) (k3 _ _ (by omega))
    unfold HLD
    rw [kpS_lo (c := 18) (by decide), kpS_lo (c := 19) (by decide), kpS_lo (c := 20) (by decide), kpS_lo (c := 21) (by decide), kpS_lo (c := 22) (by decide)]
    exact this
  · by_cases e : j = k
    · subst e
      have h25 : kpS s j 25 j = 1 := by unfold kpS; rw [if_pos ⟨rfl, rfl⟩]
      refine ⟨fun q => by omega, fun _ => ⟨x, pt, pm, et', em', rt', rm', bx, tr, on, mp, mv, hx, hi', q1, q2, ⟨q3, by omega, by omega⟩, q4, fun i hi => by rw [k3 _ _ (by omega)]; exact q5 i hi⟩⟩
    · have h25 : kpS s k 25 j = s 25 j := by unfold kpS; rw [if_neg (fun q => e q.2), if_neg (by omega)]
      rw [h25]
      refine ⟨fun q => ?_, fun q => ?_⟩
      · rw [k3 _ _ (fun w => e w.2)]; exact (c5 j hj).1 q
      · obtain ⟨x', pt', pm', et2, em2, rt2, rm2, bx', tr', on', mp', mv', p1, p2, p3, p4, p5, p6, p7⟩ := (c5 j hj).2 q
        have p2' := (p2.lv ((hSI.2.1 j hj).2 q) v (dk_e50 hD) (dk_f50 hD) h184 p3 p4).cg (σ' := img j (kpS s k)) (fun g hg _ _ => by funext i; exact img_kpj e hg) (fun t _ => img_kpj e (by decide)) (fun m _ => img_kpj e (by decide))
        exact ⟨x', pt', pm', et2, em2, rt2, rm2, bx', tr', on', mp', mv', by rw [k3 _ _ (fun w => e w.2)]; exact p1, p2', p3, p4, ⟨p5.1, by rw [k6, img_kpj e (by decide)]; exact p5.2.1, by rw [k6, img_kpj e (by decide)]; exact p5.2.2⟩, p6, fun i hi => by rw [k3 _ _ (by omega)]; exact p7 i hi⟩
  · rw [k4]; exact n1.of (by rw [k5])
  · rw [k4]; exact n2.of (by rw [k5])
set_option maxHeartbeats 2000000 in
theorem xo_keep {x : Int32} (hSI : SI s) (hd : 20 ≤ d) : XO d 120 [vi x] s h w (vi (aKeep x)) (sKeep s x) h w := fun G hIn => by
  have hIn2 := hIn
  obtain ⟨et, em, rt, rm, hD, hC, hX⟩ := hIn
  have hS := hSI.1
  have h0 := hS.1
  have h184 := hD.2.1
  have hXs := hD.1
  have him := x_isImage (d := d - 1) (G := G) (x := x) (by omega)
  rw [en120]
  unfold aKeep sKeep
  rcases inR_of (x := x) (n := 2) (by omega) with ⟨k, hk, rfl, hx⟩ | hx
  case inr =>
    rw [hx] at him
    rw [hx, if_neg (by decide), if_neg (by decide)]
    refine ⟨G, ?_, Fx.refl G, hIn2⟩
    simp (disch := omega) only [rX0_keep_0, rX0_keep_1, rX0_keep_4, rX0_keep_7, rX0_keep_8, psh_some, psh_none, bnd_r1, bnd_r0, b01_0, b01_1, lg_lt, lg_eq, lg_gt, lg_ge, lg_le, reduceIte, Bool.false_eq_true, and_true, true_and, and_false, false_and, not_true_eq_false, not_false_eq_true, eq_self, nI_add, nI_mul, nI_div, nI_irm, nI_subk, inb_ok, ix_ok, nI_lt_t, nI_lt_f, nI_le_t, nI_le_f, nI_eq_t, nI_eq_f, nI_z, ifb, ifbn, b01_bI, b01_n, Nat.reduceEqDiff, nl_l, nl_n, nl_i, nl_r, Bool.true_eq_false, reduceIte, if_true, if_false, him]
  rw [hx] at him
  rw [hx, if_pos rfl, if_pos rfl, ix_ok (by omega)]
  obtain ⟨K1, e1, o1, n1, b1, l1, l2⟩ := x_imgInit (d := d - 1) (G := G) h184 (by omega)
  simp (disch := omega) only [rX0_keep_0, rX0_keep_1, rX0_keep_4, rX0_keep_7, rX0_keep_8, rX0_keep_9, rX0_keep_12, rX0_keep_13, rX0_keep_16, psh_some, psh_none, bnd_r1, bnd_r0, b01_0, b01_1, lg_lt, lg_eq, lg_gt, lg_ge, lg_le, reduceIte, Bool.false_eq_true, and_true, true_and, and_false, false_and, not_true_eq_false, not_false_eq_true, eq_self, nI_add, nI_mul, nI_div, nI_irm, nI_subk, inb_ok, ix_ok, nI_lt_t, nI_lt_f, nI_le_t, nI_le_f, nI_eq_t, nI_eq_f, nI_z, ifb, ifbn, b01_bI, b01_n, Nat.reduceEqDiff, nl_l, nl_n, nl_i, nl_r, Bool.true_eq_false, reduceIte, if_true, if_false, him, e1]
  clear e1 him
  have q1 : KQ 8 800 G K1 := ⟨o1, b1⟩
  obtain ⟨K2, e2, q2, w2, kn2⟩ := x_keepA (d := d) (k := k) (l3 := none) q1 hD hS
  rw [e2]
  clear e2
  obtain ⟨w21, w22, w23⟩ := w2
  obtain ⟨K4, et', em', e4, q4, kn4, kl4⟩ := x_keepB (d := d) (k := k) q2 (by omega) hD hS kn2 ⟨(w23 _ _ (by omega)).1.trans l1.1, ((w22 _).2.2 _).trans l1.2⟩ ⟨(w23 _ _ (by omega)).1.trans l2.1, ((w22 _).2.2 _).trans l2.2⟩ (by omega)
  rw [e4]
  clear e4 w21 w22 w23 q2 kn2 q1 o1 b1 l1 l2 n1
  obtain ⟨K5, e5, r5, v5⟩ := x_keepC (d := d) (k := k) q4 hD hS (by omega)
  rw [e5]
  clear e5
  have q5 := r5.kq q4
  obtain ⟨K6, e6, r6, u6, v6⟩ := x_keepD (d := d) (k := k) (l3 := some (vi (nI (s 0 2)))) q5 hD hS (by omega)
  rw [e6]
  clear e6
  have q6 := r6.kq q5
  obtain ⟨K7, e7, ⟨r7, u71, u72, u73⟩, v7, v7'⟩ := x_keepE (d := d) (k := k) (l3 := some (vi (nI (s 0 3)))) q6 hD hS
  rw [e7]
  clear e7
  have q7 := r7.kq q6
  have r47 : Rw (hN G) K4 K7 := (r5.trans r6).trans r7
  have t7 := q7.2.2.1
  simp (disch := omega) only [rX0_keep_251, rX0_keep_252, psh_some, psh_none, bnd_r1, bnd_r0, b01_0, b01_1, lg_lt, lg_eq, lg_gt, lg_ge, lg_le, reduceIte, Bool.false_eq_true, and_true, true_and, and_false, false_and, not_true_eq_false, not_false_eq_true, eq_self, nI_add, nI_mul, nI_div, nI_irm, nI_subk, inb_ok, ix_ok, nI_lt_t, nI_lt_f, nI_le_t, nI_le_f, nI_eq_t, nI_eq_f, nI_z, ifb, ifbn, b01_bI, b01_n, Nat.reduceEqDiff, nl_l, nl_n, nl_i, nl_r, Bool.true_eq_false, reduceIte, if_true, if_false]
  rw [rX0_keep_253, t7]
  simp (disch := omega) only [psh_some, psh_none, bnd_r1, bnd_r0, b01_0, b01_1, lg_lt, lg_eq, lg_gt, lg_ge, lg_le, reduceIte, Bool.false_eq_true, and_true, true_and, and_false, false_and, not_true_eq_false, not_false_eq_true, eq_self, nI_add, nI_mul, nI_div, nI_irm, nI_subk, inb_ok, ix_ok, nI_lt_t, nI_lt_f, nI_le_t, nI_le_f, nI_eq_t, nI_eq_f, nI_z, ifb, ifbn, b01_bI, b01_n, Nat.reduceEqDiff, nl_l, nl_n, nl_i, nl_r, Bool.true_eq_false, reduceIte, if_true, if_false, ok0_0, ok0_1, ok0_2, ok0_3, ok0_4, ok0_5, ok0_6, ok0_7, ok0_8, ok0_9, ok0_10, ok0_11, ok0_12, ok0_13, ok0_14, ok0_15, ok0_16, ok0_17, ok0_18, ok0_19, ok0_20, ok0_21, ok0_22, ok0_23, ok0_24, ok0_25, ok0_26, ok0_27, ok0_28, ok0_29, ok0_30, ok0_31, ok0_32, ok0_33, ok0_34, ok0_35, ok0_36, ok0_37, ok0_38, ok0_39, ok0_40, ok0_41, ok0_42, ok0_43, ok0_44, ok0_45, ok0_46, ok0_47, ok0_48, ok0_49, ok0_50, ok0_51, ok0_52, ok0_53, ok0_54, ok1_141, ok2_55, ok2_56, ok2_57, ok2_58, ok2_59, ok2_60, ok2_61, ok2_62, ok2_63, ok2_64, ok2_65, ok2_66, ok2_67, ok2_68, ok2_69, ok2_70, ok2_71, ok2_72, ok2_73, ok2_74, ok2_75, ok2_76, ok2_77, ok2_78, ok2_79, ok2_80, ok2_81, ok2_82, ok2_83, ok2_84, ok2_85, ok2_86, ok2_87, ok2_88, ok2_89, ok2_90, ok2_91, ok2_92, ok2_93, ok2_94, ok2_95, ok2_96, ok2_97, ok2_98, ok2_99, ok2_100, ok2_101, ok2_102, ok2_103, ok2_104, ok2_105, ok2_106, ok2_107, ok2_108, ok2_109, ok2_110, ok2_111, ok2_112, ok2_113, ok2_114, ok2_115, ok2_116, ok2_117, ok2_118, ok2_119, ok2_120, ok2_121, ok2_122, ok2_123, ok2_124, ok2_125, ok2_126, ok2_127, ok2_128, ok2_129, ok2_130, ok2_131, ok2_132, ok2_133, ok2_134, ok2_135, ok2_136, ok2_137, ok3_171, ok3_172, ok3_173, ok3_174, ok3_175, ok3_176, ok4_171, ok4_172, ok4_173, ok4_174, ok4_175, ok4_176, ok4_177, ok4_178, ok5_171, ok5_172, ok5_173, ok5_174, ok5_175, ok5_176, ok5_177, ok5_178, ok5_179, ok7_142, ok7_143, ok7_144, ok7_145, ok7_146, ok7_147, ok7_148, ok7_149, ok7_152, ok7_153, ok7_154, ok8_142, ok8_143, ok8_144, ok8_145, ok8_146, ok8_147, ok8_148, ok8_149, ok8_152, ok8_153, ok8_154, ok8_155, ok9_142, ok9_143, ok9_144, ok9_145, ok9_146, ok9_147, ok9_148, ok9_149, ok9_152, ok9_153, ok9_154, ok9_155, ok9_180, ok10_142, ok10_143, ok10_144, ok10_145, ok10_146, ok10_147, ok10_148, ok10_149, ok10_150, ok10_151, ok11_142, ok11_143, ok11_144, ok11_145, ok11_146, ok11_147, ok11_148, ok11_149, ok11_152, ok11_153, ok11_154, ok11_155, ok11_156, ok11_157, ok13_158, ok13_159, ok13_160, ok13_161, ok13_162, ok13_163, ok13_164, ok13_165, ok13_166, ok13_167, ok13_168, ok13_169, ok13_170, ok16_138, ok16_139, ok16_140, ct_a, ct_a5, ct_b, ct_c, ct_d, ct_r50, ct_r51, ct_r52, ct_r53, ct_r54]
  have q8 := q7.sI (a := hN G) (i := 170) (v := nI 1) (Nat.le_refl _)
  have w8 : Ow (hN G) K7 (sI K7 (hN G) 170 (nI 1)) := Ow.sI ⟨rfl, fun _ => ⟨rfl, rfl, fun _ => rfl⟩, fun _ _ _ => ⟨rfl, rfl⟩⟩
  have i8 : hI (sI K7 (hN G) 170 (nI 1)) (hN G) 170 = nI 1 := by rw [hI_sI, if_pos ⟨rfl, rfl⟩]
  have j8 : ∀ i, i ≠ 170 → hI (sI K7 (hN G) 170 (nI 1)) (hN G) i = hI K7 (hN G) i := fun i hi => by rw [hI_sI, if_neg (fun w => hi w.2)]
  have jj8 : ∀ i, hJ (sI K7 (hN G) 170 (nI 1)) (hN G) i = hJ K7 (hN G) i := fun i => by rw [hJ_sI]
  generalize sI K7 (hN G) 170 (nI 1) = K8 at q8 w8 i8 j8 jj8 ⊢
  clear t7
  have hD8 := q8.1.dk hD
  have hX8 := hD8.1
  obtain ⟨w81, w82, w83⟩ := w8
  obtain ⟨rr1, rr2, rr3, rr4⟩ := r47
  have hT8 : ∀ a, hT K8 a = hT K4 a := fun a => (w82 a).1.trans (rr2 a).1
  have hL8 : ∀ a, hL K8 a = hL K4 a := fun a => (w82 a).2.1.trans (rr2 a).2.1
  have hR8 : ∀ a i, hR K8 a i = hR K4 a i := fun a i => ((w82 a).2.2 i).trans ((rr2 a).2.2 i)
  have hN8 : hN K8 = hN K4 := by omega
  obtain ⟨y1, y2, y3, y4, y5, y6, y7, y8, y9⟩ := kl4
  obtain ⟨z0, z1, z2, z3⟩ := q8.2
  obtain ⟨p1, p2, p3, p4, p5⟩ := kn4
  have hD4 := q4.1.dk hD
  have hLx : ∀ p n e, p = hN G + 1 ∨ p = hN G + 2 → LSt K4 p n e → LSt K8 p n e := fun p n e hp hl => hl.of (by omega) (fun a _ => ⟨hT8 a, hL8 a⟩) (by rw [(w83 _ _ (by omega)).1, (rr3 _ _ (by omega)).1]) (hR8 _ _) (by have := q4.2.1; omega)
  have hCX8 : CX s h et em K8 := hX.sy h184 (dk_et hD) (dk_em hD) q8.1.sy (by decide) (by decide) (by decide) ⟨by rw [hN8]; exact y8.of (hT8 _), by rw [hN8]; exact y9.of (hT8 _)⟩
  have hC8 : CC s K8 := hC.sy h184 q8.1.sy (by decide) (by decide)
  obtain ⟨-, -, -, -, m1, m2⟩ := xs_mp hX8
  have hTx : hT K8 (hN G) = 13 := z1
  have hok : okA K8 53 (some (hN G)) = true := by
    show ((53 == 50 && _) || (53 == 53 && hT K8 (hN G) == 13) || _) = true
    rw [hTx]
    rfl
  have hxl : hN G < hN K8 := by omega
  have hIM : IMG s (hN G) (hN G + 1) (hN G + 2) et' em' rt rm (hN G + 3) (hN G + 4) (hN G + 5) (hN G + 6) (hN G + 7) K8 := by
    obtain ⟨t1, t2, t3, t4, t5, t6, t7, t8, t9, t10, t11, t12⟩ := z3
    refine ⟨⟨h184, hxl, z1, i8⟩, ⟨?_, ?_, ?_, ?_, ?_⟩, z2, ⟨by omega, hLx _ _ _ (Or.inl rfl) y1, by omega, fun t ht => ⟨?_, dk_th hD8 ht⟩⟩, ⟨by omega, hLx _ _ _ (Or.inr rfl) y4, by omega, fun m hm => ⟨?_, dk_me hD8 hm, fun _ => dk_mr hD8 hm⟩⟩, ⟨by omega, by omega, t3, t4, Or.inr (by rw [show hN G + 3 - 1 = hN G + 2 by omega, t2]; omega), Or.inr (by rw [show hN G + 3 - 2 = hN G + 1 by omega, t1]; omega), fun t ht => ?_⟩, ⟨by omega, by omega, t5, t6, fun t ht => ?_⟩, ⟨by omega, by omega, t7, t8, fun m hm => ?_⟩, ⟨by omega, by omega, t9, t10, fun t ht => ?_⟩, ⟨by omega, by omega, t11, t12, fun j hj => ?_⟩⟩
    · rw [j8 _ (by decide), (rr3 _ _ (by omega)).1]; exact p1
    · rw [j8 _ (by decide), (rr3 _ _ (by omega)).1]; exact p2
    · rw [jj8, (rr3 _ _ (by omega)).2]; exact p3
    · rw [j8 _ (by decide), (rr3 _ _ (by omega)).1]; exact p4
    · rw [j8 _ (by decide), (rr3 _ _ (by omega)).1]; exact p5
    · rw [hR8, y3 t ht]; exact dk_t hD4 ht
    · rw [hR8, y6 m hm]; exact dk_m hD4 hm
    · rw [(w83 _ _ (by omega)).2, u71, (u6 t).1]; exact (v5 t ht).1
    · rw [(w83 _ _ (by omega)).1, u72, (u6 t).2]; exact (v5 t ht).2
    · rw [(w83 _ _ (by omega)).1, u73]; exact v6 m hm
    · rw [(w83 _ _ (by omega)).1]; exact v7 t ht
    · rw [(w83 _ _ (by omega)).1, (w83 _ _ (by omega)).1, (w83 _ _ (by omega)).1]; exact v7' j hj
  have hgb8 : Gb 12 1200 G K8 := q8.1.2.1.mono (by omega) (by omega)
  have hfx8 : Fx G K8 := q8.1.sy.fx h184 (by decide) (hgb8.mono (by omega) (by omega))
  have hsh : ∀ j, j < 4 → ∀ a, hN G ≤ a → hR K8 (132 + j) 141 ≠ some a := fun j hj a ha q => by
    obtain ⟨rs, c3, -⟩ := hX.2.2.1
    rw [(q8.1.2.2 _ (by omega)).2.2.2.2] at q
    rcases Nat.eq_zero_or_pos (s 23 j) with e | e
    · rw [(c3 j hj).1 e] at q; cases q
    · obtain ⟨g1, g2, g3, -⟩ := (c3 j hj).2 e
      rw [g1] at q
      have := Option.some.inj q
      omega
  have hetl := dk_et hD
  have heml := dk_em hD
  clear hIn2
  simp (disch := omega) only [rX0_keep_256, rX0_keep_257, rX0_keep_260, rX0_keep_261, psh_some, psh_none, bnd_r1, bnd_r0, b01_0, b01_1, lg_lt, lg_eq, lg_gt, lg_ge, lg_le, reduceIte, Bool.false_eq_true, and_true, true_and, and_false, false_and, not_true_eq_false, not_false_eq_true, eq_self, nI_add, nI_mul, nI_div, nI_irm, nI_subk, inb_ok, ix_ok, nI_lt_t, nI_lt_f, nI_le_t, nI_le_f, nI_eq_t, nI_eq_f, nI_z, ifb, ifbn, b01_bI, b01_n, Nat.reduceEqDiff, nl_l, nl_n, nl_i, nl_r, Bool.true_eq_false, reduceIte, if_true, if_false, ok0_0, ok0_1, ok0_2, ok0_3, ok0_4, ok0_5, ok0_6, ok0_7, ok0_8, ok0_9, ok0_10, ok0_11, ok0_12, ok0_13, ok0_14, ok0_15, ok0_16, ok0_17, ok0_18, ok0_19, ok0_20, ok0_21, ok0_22, ok0_23, ok0_24, ok0_25, ok0_26, ok0_27, ok0_28, ok0_29, ok0_30, ok0_31, ok0_32, ok0_33, ok0_34, ok0_35, ok0_36, ok0_37, ok0_38, ok0_39, ok0_40, ok0_41, ok0_42, ok0_43, ok0_44, ok0_45, ok0_46, ok0_47, ok0_48, ok0_49, ok0_50, ok0_51, ok0_52, ok0_53, ok0_54, ok1_141, ok2_55, ok2_56, ok2_57, ok2_58, ok2_59, ok2_60, ok2_61, ok2_62, ok2_63, ok2_64, ok2_65, ok2_66, ok2_67, ok2_68, ok2_69, ok2_70, ok2_71, ok2_72, ok2_73, ok2_74, ok2_75, ok2_76, ok2_77, ok2_78, ok2_79, ok2_80, ok2_81, ok2_82, ok2_83, ok2_84, ok2_85, ok2_86, ok2_87, ok2_88, ok2_89, ok2_90, ok2_91, ok2_92, ok2_93, ok2_94, ok2_95, ok2_96, ok2_97, ok2_98, ok2_99, ok2_100, ok2_101, ok2_102, ok2_103, ok2_104, ok2_105, ok2_106, ok2_107, ok2_108, ok2_109, ok2_110, ok2_111, ok2_112, ok2_113, ok2_114, ok2_115, ok2_116, ok2_117, ok2_118, ok2_119, ok2_120, ok2_121, ok2_122, ok2_123, ok2_124, ok2_125, ok2_126, ok2_127, ok2_128, ok2_129, ok2_130, ok2_131, ok2_132, ok2_133, ok2_134, ok2_135, ok2_136, ok2_137, ok3_171, ok3_172, ok3_173, ok3_174, ok3_175, ok3_176, ok4_171, ok4_172, ok4_173, ok4_174, ok4_175, ok4_176, ok4_177, ok4_178, ok5_171, ok5_172, ok5_173, ok5_174, ok5_175, ok5_176, ok5_177, ok5_178, ok5_179, ok7_142, ok7_143, ok7_144, ok7_145, ok7_146, ok7_147, ok7_148, ok7_149, ok7_152, ok7_153, ok7_154, ok8_142, ok8_143, ok8_144, ok8_145, ok8_146, ok8_147, ok8_148, ok8_149, ok8_152, ok8_153, ok8_154, ok8_155, ok9_142, ok9_143, ok9_144, ok9_145, ok9_146, ok9_147, ok9_148, ok9_149, ok9_152, ok9_153, ok9_154, ok9_155, ok9_180, ok10_142, ok10_143, ok10_144, ok10_145, ok10_146, ok10_147, ok10_148, ok10_149, ok10_150, ok10_151, ok11_142, ok11_143, ok11_144, ok11_145, ok11_146, ok11_147, ok11_148, ok11_149, ok11_152, ok11_153, ok11_154, ok11_155, ok11_156, ok11_157, ok13_158, ok13_159, ok13_160, ok13_161, ok13_162, ok13_163, ok13_164, ok13_165, ok13_166, ok13_167, ok13_168, ok13_169, ok13_170, ok16_138, ok16_139, ok16_140, ct_a, ct_a5, ct_b, ct_c, ct_d, ct_r50, ct_r51, ct_r52, ct_r53, ct_r54, xs_T, xsR_5, xsT_4, xsL_4, xsR_6, xsT_5, xsL_5, xsR_7, xsT_6, xsL_6, xsR_8, xsT_7, xsL_7, xsR_9, xsT_8, xsL_8, xsR_10, xsT_9, xsL_9, xsR_14, xsT_10, xsL_10, xsR_17, xsT_11, xsL_11, xsR_18, xsT_12, xsL_12, xsR_24, xsT_13, xsL_13, xsR_25, xsT_14, xsL_14, xsR_26, xsT_24, xsL_24, xsR_28, xsT_106, xsL_106, xsR_34, xsT_107, xsL_107, xsR_41, xsT_108, xsL_108, xsR_42, xsT_109, xsL_109, xsR_43, xsT_110, xsL_110, xsR_44, xsT_111, xsL_111, xsR_46, xsT_112, xsL_112, xsR_52, xsT_121, xsL_121, xsR_53, xsT_122, xsL_122, xsR_54, xsT_131, xsL_131, hX8]
  rw [rX0_keep_262, m1, m2, hok]
  simp (disch := omega) only [rX0_keep_263, rX0_keep_264, psh_some, psh_none, bnd_r1, bnd_r0, b01_0, b01_1, lg_lt, lg_eq, lg_gt, lg_ge, lg_le, reduceIte, Bool.false_eq_true, and_true, true_and, and_false, false_and, not_true_eq_false, not_false_eq_true, eq_self, nI_add, nI_mul, nI_div, nI_irm, nI_subk, inb_ok, ix_ok, nI_lt_t, nI_lt_f, nI_le_t, nI_le_f, nI_eq_t, nI_eq_f, nI_z, ifb, ifbn, b01_bI, b01_n, Nat.reduceEqDiff, nl_l, nl_n, nl_i, nl_r, Bool.true_eq_false, reduceIte, if_true, if_false]
  have v9 : Lv et em K8 (sR K8 121 k (some (hN G))) := Lv.ref (by decide)
  have w9 : Wr 121 k K8 (sR K8 121 k (some (hN G))) := Wr.sR
  have hcx9 : CX (kpS s k) h et em (sR K8 121 k (some (hN G))) := CX.kp hk hSI hD8 hCX8 rfl (hIM.lv hS v9 (dk_e50 hD8) (dk_f50 hD8) hD8.2.1 (by omega) (by omega)) (by omega) (by omega) (by omega) y7 (fun j hj => ⟨hsh j hj _ (by omega), hsh j hj _ (by omega), hsh j hj _ (by omega)⟩)
  generalize sR K8 121 k (some (hN G)) = K9 at v9 w9 hcx9 ⊢
  have hD9 := w9.dk hD8 hS (by decide) v9
  have hC9 := hC8.wr w9
  have ha : AgF s (kpS s k) := ⟨kpS_lo (by decide), kpS_lo (by decide), kpS_lo (by decide), kpS_lo (by decide), kpS_lo (by decide), kpS_lo (by decide), kpS_lo (by decide), kpS_lo (by decide), kpS_lo (by decide), kpS_lo (by decide)⟩
  refine ⟨K9, rfl, hfx8.trans2 (w9.fx (by decide)) ((hgb8.trans w9.2.2.2.2.2.2).mono (by omega) (by omega)), et, em, rt, rm, hD9.ch ⟨ha, kpS_lo (by decide), kpS_lo (by decide), kpS_lo (by decide), kpS_lo (by decide)⟩ (Sx.refl (l := []) (f := []) K9) (by decide) ?_, hC9.ag ha (kpS_lo (by decide)) (kpS_lo (by decide)), hcx9⟩
  have hcr := hD9.2.2.1
  unfold CR at hcr ⊢
  rw [kpS_lo (c := 0) (by decide), kpS_lo (c := 1) (by decide), kpS_lo (c := 26) (by decide), kpS_lo (c := 8) (by decide), kpS_lo (c := 15) (by decide), kpS_lo (c := 16) (by decide), kpS_lo (c := 17) (by decide)]
  exact hcr
end
