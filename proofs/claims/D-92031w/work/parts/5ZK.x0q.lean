/-! the class: measures come -/
def i6 (G : AH) (r : Nat) (k a b n : Int32) : AH := sI (sI (sI (sI (sR (mkx (sR (mkx (sI (sR G r 149 (some 3)) r 146 (nI 1)) 41 64 1 64) r 147 (some (hN G))) 41 64 1 64) r 148 (some (hN G + 1))) r 142 n) r 143 k) r 144 a) r 145 b
def i7 (G : AH) (r : Nat) (k a b p q n : Int32) : AH := sI (sI (i6 (sR G r 154 (some 3)) r k a b n) r 152 p) r 153 q
def i8 (G : AH) (r : Nat) (k a b q n : Int32) : AH := i7 (sR G r 155 (some 3)) r k a b (nI 0) q n
def meK (G : AH) (k : Nat) (a b p q n : Int32) : AH := if k = 0 then i7 (mkx G 7 0 1 11) (hN G) (nI 0) a b p q n else if k = 1 then i8 (mkx G 8 0 1 12) (hN G) (nI 1) a b q n else if k = 2 then i8 (sR (mkx G 9 0 1 13) (hN G) 180 (some 3)) (hN G) (nI 2) a b q n else if k = 3 then sI (i6 (sR (mkx G 10 0 1 10) (hN G) 151 (some 3)) (hN G) (nI 3) a b n) (hN G) 150 p else sI (i8 (sR (mkx G 11 0 1 14) (hN G) 157 (some 3)) (hN G) (nI 4) a b q n) (hN G) 156 p
section
variable {d n r m : Nat} {G G' K H : AH} {s s' σ : SGT} {h h' : Nat → Nat → Int64} {w w' : Int32} {et em : Nat} {rt rm : Nat → Nat} {l f : List Nat} {P : Nat → Bool}
theorem i6_T {k a b n : Int32} {x : Nat} : hT (i6 G r k a b n) x = if x = hN G + 1 then 41 else if x = hN G then 41 else hT G x := rfl
theorem i6_L {k a b n : Int32} {x : Nat} : hL (i6 G r k a b n) x = if x = hN G + 1 then 64 else if x = hN G then 64 else hL G x := rfl
theorem i6_N {k a b n : Int32} : hN (i6 G r k a b n) = hN G + 2 := rfl
theorem i6_C {k a b n : Int32} : hC (i6 G r k a b n) = hC G + 1 + 1 ∧ hS (i6 G r k a b n) = hS G + 64 + 64 := ⟨rfl, rfl⟩
theorem i6_I {k a b n : Int32} {x i : Nat} : hI (i6 G r k a b n) x i = if x = r ∧ i = 145 then b else if x = r ∧ i = 144 then a else if x = r ∧ i = 143 then k else if x = r ∧ i = 142 then n else if x = hN G + 1 then 0 else if x = hN G then 0 else if x = r ∧ i = 146 then nI 1 else hI G x i := rfl
theorem i6_J {k a b n : Int32} {x i : Nat} : hJ (i6 G r k a b n) x i = if x = hN G + 1 then 0 else if x = hN G then 0 else hJ G x i := rfl
theorem i6_R {k a b n : Int32} {x i : Nat} : hR (i6 G r k a b n) x i = if x = r ∧ i = 148 then some (hN G + 1) else if x = hN G + 1 then none else if x = r ∧ i = 147 then some (hN G) else if x = hN G then none else if x = r ∧ i = 149 then some 3 else hR G x i := rfl
theorem x_i6b {k a b : Int32} {x : Nat} (htg : List.contains [7, 8, 9, 10, 11] (hT G r) = true) (h184 : 184 ≤ r) (hX : XS G) (hLt : LSt G 6 n em) (hN4 : 184 ≤ hN G) (hd : 1 ≤ d) : At d 297 27 [some (vr (some r)), some (vr (some 3)), some (vi k), some (vi a), some (vi b)] [vr (some x), vr (some r)] G = some (.inl none, sI (sI (sI (sI (sR G r 148 (some x)) r 142 (nI n)) r 143 k) r 144 a) r 145 b) := by
  obtain ⟨o1, o2, o3, o4, o5, o6, o7, o8⟩ := me_ok htg
  have hX3 : XS (sR G r 148 (some x)) := XS.of hX (fun x f q => by rw [hR_sR, if_neg (by omega)]) (fun x q => ⟨rfl, rfl⟩)
  have hL3 : LSt (sR G r 148 (some x)) 6 n em := hLt.of (Nat.le_refl _) (fun x hx => ⟨rfl, rfl⟩) rfl (by rw [hR_sR, if_neg (by omega)]) hN4
  have hsz := c_size (d := d - 1) hL3
  have hT5 := hL3.1
  simp (disch := omega) only [rX6_init_27, rX6_init_30, rX6_init_31, rX6_init_32, rX6_init_35, rX6_init_40, rX6_init_43, rX6_init_44, rX6_init_45, rX6_init_48, rX6_init_49, rX6_init_50, rX6_init_53, rX6_init_54, rX6_init_56, rX6_init_59, psh_some, psh_none, bnd_r1, bnd_r0, b01_0, b01_1, lg_lt, lg_eq, lg_gt, lg_ge, lg_le, reduceIte, Bool.false_eq_true, and_true, true_and, and_false, false_and, not_true_eq_false, not_false_eq_true, eq_self, nI_add, nI_mul, nI_div, nI_irm, nI_subk, inb_ok, ix_ok, nI_lt_t, nI_lt_f, nI_le_t, nI_le_f, nI_eq_t, nI_eq_f, nI_z, ifb, ifbn, b01_bI, b01_n, Nat.reduceEqDiff, nl_l, nl_n, nl_i, nl_r, Bool.true_eq_false, reduceIte, if_true, if_false, ok0_0, ok0_1, ok0_2, ok0_3, ok0_4, ok0_5, ok0_6, ok0_7, ok0_8, ok0_9, ok0_10, ok0_11, ok0_12, ok0_13, ok0_14, ok0_15, ok0_16, ok0_17, ok0_18, ok0_19, ok0_20, ok0_21, ok0_22, ok0_23, ok0_24, ok0_25, ok0_26, ok0_27, ok0_28, ok0_29, ok0_30, ok0_31, ok0_32, ok0_33, ok0_34, ok0_35, ok0_36, ok0_37, ok0_38, ok0_39, ok0_40, ok0_41, ok0_42, ok0_43, ok0_44, ok0_45, ok0_46, ok0_47, ok0_48, ok0_49, ok0_50, ok0_51, ok0_52, ok0_53, ok0_54, ok1_141, ok2_55, ok2_56, ok2_57, ok2_58, ok2_59, ok2_60, ok2_61, ok2_62, ok2_63, ok2_64, ok2_65, ok2_66, ok2_67, ok2_68, ok2_69, ok2_70, ok2_71, ok2_72, ok2_73, ok2_74, ok2_75, ok2_76, ok2_77, ok2_78, ok2_79, ok2_80, ok2_81, ok2_82, ok2_83, ok2_84, ok2_85, ok2_86, ok2_87, ok2_88, ok2_89, ok2_90, ok2_91, ok2_92, ok2_93, ok2_94, ok2_95, ok2_96, ok2_97, ok2_98, ok2_99, ok2_100, ok2_101, ok2_102, ok2_103, ok2_104, ok2_105, ok2_106, ok2_107, ok2_108, ok2_109, ok2_110, ok2_111, ok2_112, ok2_113, ok2_114, ok2_115, ok2_116, ok2_117, ok2_118, ok2_119, ok2_120, ok2_121, ok2_122, ok2_123, ok2_124, ok2_125, ok2_126, ok2_127, ok2_128, ok2_129, ok2_130, ok2_131, ok2_132, ok2_133, ok2_134, ok2_135, ok2_136, ok2_137, ok3_171, ok3_172, ok3_173, ok3_174, ok3_175, ok3_176, ok4_171, ok4_172, ok4_173, ok4_174, ok4_175, ok4_176, ok4_177, ok4_178, ok5_171, ok5_172, ok5_173, ok5_174, ok5_175, ok5_176, ok5_177, ok5_178, ok5_179, ok7_142, ok7_143, ok7_144, ok7_145, ok7_146, ok7_147, ok7_148, ok7_149, ok7_152, ok7_153, ok7_154, ok8_142, ok8_143, ok8_144, ok8_145, ok8_146, ok8_147, ok8_148, ok8_149, ok8_152, ok8_153, ok8_154, ok8_155, ok9_142, ok9_143, ok9_144, ok9_145, ok9_146, ok9_147, ok9_148, ok9_149, ok9_152, ok9_153, ok9_154, ok9_155, ok9_180, ok10_142, ok10_143, ok10_144, ok10_145, ok10_146, ok10_147, ok10_148, ok10_149, ok10_150, ok10_151, ok11_142, ok11_143, ok11_144, ok11_145, ok11_146, ok11_147, ok11_148, ok11_149, ok11_152, ok11_153, ok11_154, ok11_155, ok11_156, ok11_157, ok13_158, ok13_159, ok13_160, ok13_161, ok13_162, ok13_163, ok13_164, ok13_165, ok13_166, ok13_167, ok13_168, ok13_169, ok13_170, ok16_138, ok16_139, ok16_140, ct_a, ct_a5, ct_b, ct_c, ct_d, ct_r50, ct_r51, ct_r52, ct_r53, ct_r54, xs_T, xsR_5, xsT_4, xsL_4, xsR_6, xsT_5, xsL_5, xsR_7, xsT_6, xsL_6, xsR_8, xsT_7, xsL_7, xsR_9, xsT_8, xsL_8, xsR_10, xsT_9, xsL_9, xsR_14, xsT_10, xsL_10, xsR_17, xsT_11, xsL_11, xsR_18, xsT_12, xsL_12, xsR_24, xsT_13, xsL_13, xsR_25, xsT_14, xsL_14, xsR_26, xsT_24, xsL_24, xsR_28, xsT_106, xsL_106, xsR_34, xsT_107, xsL_107, xsR_41, xsT_108, xsL_108, xsR_42, xsT_109, xsL_109, xsR_43, xsT_110, xsL_110, xsR_44, xsT_111, xsL_111, xsR_46, xsT_112, xsL_112, xsR_52, xsT_121, xsL_121, xsR_53, xsT_122, xsL_122, xsR_54, xsT_131, xsL_131, hX3, hT5, hsz, hT_sI, hT_sR, o1, o2, o3, o4, o7]
theorem x_init6 {k a b : Int32} (htg : List.contains [7, 8, 9, 10, 11] (hT G r) = true) (hr : r < hN G) (h184 : 184 ≤ r) (hX : XS G) (hLt : LSt G 6 n em) (hd : 1 ≤ d) : cl d 297 [vr (some r), vr (some 3), vi k, vi a, vi b] G = some (.inl none, i6 G r k a b (nI n)) := by
  obtain ⟨o1, o2, o3, o4, o5, o6, o7, o8⟩ := me_ok htg
  have h64 : (nI 64 < (0 : Int32)) = False := eq_false (by decide)
  have h65 : (nI 64 ≤ (65536 : Int32)) = True := eq_true (by decide)
  have hb1 : b01 (nI 1) = true := rfl
  have hi64 : ix (nI 64) = 64 := by decide
  rw [en297]
  simp (disch := omega) only [rX6_init_0, rX6_init_1, rX6_init_2, rX6_init_5, rX6_init_6, rX6_init_9, rX6_init_10, rX6_init_11, rX6_init_14, rX6_init_15, rX6_init_17, psh_some, psh_none, bnd_r1, bnd_r0, b01_0, b01_1, lg_lt, lg_eq, lg_gt, lg_ge, lg_le, reduceIte, Bool.false_eq_true, and_true, true_and, and_false, false_and, not_true_eq_false, not_false_eq_true, eq_self, hT_sI, hT_sR, hN_sI, hN_sR, o5, o8, hb1, h64, h65, hi64]
  have g0 : Old 1 64 G (mkx G 41 64 1 64) := ⟨Nat.le_succ _, ⟨Nat.le_add_right _ _, Nat.le_refl _, Nat.le_add_right _ _, Nat.le_refl _⟩, fun x hx => by
    have : ¬ x = hN G := by omega
    exact ⟨by rw [hT_mkx, if_neg this], by rw [hL_mkx, if_neg this], fun i => by rw [hI_mkx, if_neg this], fun i => by rw [hJ_mkx, if_neg this], fun i => by rw [hR_mkx, if_neg this]⟩⟩
  have f1 : hT (mkx (sI (sR G r 149 (some 3)) r 146 (nI 1)) 41 64 1 64) r = hT G r := by rw [hT_mkx, hN_sI, hN_sR, if_neg (show ¬ r = hN G by omega)]; rfl
  have f2 : hN (mkx (sI (sR G r 149 (some 3)) r 146 (nI 1)) 41 64 1 64) = hN G + 1 := rfl
  have f3 : ∀ x, x < hN G → hT (mkx (sI (sR G r 149 (some 3)) r 146 (nI 1)) 41 64 1 64) x = hT G x ∧ hL (mkx (sI (sR G r 149 (some 3)) r 146 (nI 1)) 41 64 1 64) x = hL G x := fun x hx => ⟨by rw [hT_mkx, hN_sI, hN_sR, if_neg (show ¬ x = hN G by omega)]; rfl, by rw [hL_mkx, hN_sI, hN_sR, if_neg (show ¬ x = hN G by omega)]; rfl⟩
  have f4 : ∀ x i, x < hN G → x ≠ r → hI (mkx (sI (sR G r 149 (some 3)) r 146 (nI 1)) 41 64 1 64) x i = hI G x i ∧ hR (mkx (sI (sR G r 149 (some 3)) r 146 (nI 1)) 41 64 1 64) x i = hR G x i := fun x i hx hxr => ⟨by rw [hI_mkx, hN_sI, hN_sR, if_neg (show ¬ x = hN G by omega), hI_sI, if_neg (by omega), hI_sR], by rw [hR_mkx, hN_sI, hN_sR, if_neg (show ¬ x = hN G by omega), hR_sI, hR_sR, if_neg (by omega)]⟩
  unfold i6
  generalize mkx (sI (sR G r 149 (some 3)) r 146 (nI 1)) 41 64 1 64 = K1 at f1 f2 f3 f4
  simp (disch := omega) only [rX6_init_19, rX6_init_22, rX6_init_23, rX6_init_25, psh_some, psh_none, bnd_r1, bnd_r0, b01_0, b01_1, lg_lt, lg_eq, lg_gt, lg_ge, lg_le, reduceIte, Bool.false_eq_true, and_true, true_and, and_false, false_and, not_true_eq_false, not_false_eq_true, eq_self, hT_sI, hT_sR, hN_sI, hN_sR, f1, f2, o6, h64, h65, hi64]
  have g1 : hT (mkx (sR K1 r 147 (some (hN G))) 41 64 1 64) r = hT G r := by rw [hT_mkx, hN_sR, if_neg (show ¬ r = hN K1 by omega), hT_sR]; exact f1
  have g3 : ∀ x, x < hN G → hT (mkx (sR K1 r 147 (some (hN G))) 41 64 1 64) x = hT G x ∧ hL (mkx (sR K1 r 147 (some (hN G))) 41 64 1 64) x = hL G x := fun x hx => ⟨by rw [hT_mkx, hN_sR, if_neg (show ¬ x = hN K1 by omega), hT_sR]; exact (f3 x hx).1, by rw [hL_mkx, hN_sR, if_neg (show ¬ x = hN K1 by omega), hL_sR]; exact (f3 x hx).2⟩
  have g4 : ∀ x i, x < hN G → x ≠ r → hI (mkx (sR K1 r 147 (some (hN G))) 41 64 1 64) x i = hI G x i ∧ hR (mkx (sR K1 r 147 (some (hN G))) 41 64 1 64) x i = hR G x i := fun x i hx hxr => ⟨by rw [hI_mkx, hN_sR, if_neg (show ¬ x = hN K1 by omega), hI_sR]; exact (f4 x i hx hxr).1, by rw [hR_mkx, hN_sR, if_neg (show ¬ x = hN K1 by omega), hR_sR, if_neg (by omega)]; exact (f4 x i hx hxr).2⟩
  have g5 : hN (mkx (sR K1 r 147 (some (hN G))) 41 64 1 64) = hN G + 2 := by rw [hN_mkx, hN_sR, f2]
  exact x_i6b (by rw [g1]; exact htg) h184 (XS.of hX (fun x f q => (g4 x f (by omega) (by omega)).2) (fun x q => g3 x (by omega))) (hLt.of (by omega) (fun x hx => g3 x hx) (g4 _ _ (by omega) (by omega)).1 (g4 _ _ (by omega) (by omega)).2 (by omega)) (by omega) hd
theorem x_i7b {k a b p q : Int32} (o2 : okF (hT G r) 152 = true) (o3 : okF (hT G r) 153 = true) : At d 306 14 [some (vr (some r)), some (vr (some 3)), some (vi k), some (vi a), some (vi b), some (vi p), some (vi q)] [] G = some (.inl none, sI (sI G r 152 p) r 153 q) := by
  simp (disch := omega) only [rX7_init_14, rX7_init_15, rX7_init_17, rX7_init_20, rX7_init_21, rX7_init_23, rX7_init_26, psh_some, psh_none, bnd_r1, bnd_r0, b01_0, b01_1, lg_lt, lg_eq, lg_gt, lg_ge, lg_le, reduceIte, Bool.false_eq_true, and_true, true_and, and_false, false_and, not_true_eq_false, not_false_eq_true, eq_self, hT_sI, o2, o3]
theorem x_init7 {k a b p q : Int32} (hT7 : hT G r = 7 ∨ hT G r = 8 ∨ hT G r = 9 ∨ hT G r = 11) (hr : r < hN G) (h184 : 184 ≤ r) (hX : XS G) (hLt : LSt G 6 n em) (hd : 2 ≤ d) : cl d 306 [vr (some r), vr (some 3), vi k, vi a, vi b, vi p, vi q] G = some (.inl none, i7 G r k a b p q (nI n)) := by
  have htg : List.contains [7, 8, 9, 10, 11] (hT G r) = true := by rcases hT7 with q | q | q | q <;> rw [q] <;> decide
  have o1 : okF (hT G r) 154 = true := by rcases hT7 with q | q | q | q <;> rw [q] <;> decide
  have o2 : okF (hT G r) 152 = true := by rcases hT7 with q | q | q | q <;> rw [q] <;> decide
  have o3 : okF (hT G r) 153 = true := by rcases hT7 with q | q | q | q <;> rw [q] <;> decide
  have hX1 : XS (sR G r 154 (some 3)) := XS.of hX (fun x f z => by rw [hR_sR, if_neg (by omega)]) (fun _ _ => ⟨rfl, rfl⟩)
  have hL1 : LSt (sR G r 154 (some 3)) 6 n em := hLt.of (Nat.le_refl _) (fun _ _ => ⟨rfl, rfl⟩) rfl (by rw [hR_sR, if_neg (by omega)]) (by omega)
  have h6 := x_init6 (d := d - 1) (G := sR G r 154 (some 3)) (r := r) (k := k) (a := a) (b := b) htg hr h184 hX1 hL1 (by omega)
  have e3 : hT (i6 (sR G r 154 (some 3)) r k a b (nI n)) r = hT G r := by rw [i6_T, hN_sR, if_neg (by omega), if_neg (by omega), hT_sR]
  unfold i7
  rw [en306]
  simp (disch := omega) only [rX7_init_0, rX7_init_1, rX7_init_2, rX7_init_5, rX7_init_6, rX7_init_7, rX7_init_8, rX7_init_9, rX7_init_11, psh_some, psh_none, bnd_r1, bnd_r0, b01_0, b01_1, lg_lt, lg_eq, lg_gt, lg_ge, lg_le, reduceIte, Bool.false_eq_true, and_true, true_and, and_false, false_and, not_true_eq_false, not_false_eq_true, eq_self, o1, h6]
  exact x_i7b (by rw [e3]; exact o2) (by rw [e3]; exact o3)
theorem x_init8 {k a b q : Int32} (hT7 : hT G r = 8 ∨ hT G r = 9 ∨ hT G r = 11) (hr : r < hN G) (h184 : 184 ≤ r) (hX : XS G) (hLt : LSt G 6 n em) (hd : 3 ≤ d) : cl d 312 [vr (some r), vr (some 3), vi k, vi a, vi b, vi q] G = some (.inl none, i8 G r k a b q (nI n)) := by
  have o1 : okF (hT G r) 155 = true := by rcases hT7 with q | q | q <;> rw [q] <;> decide
  have hX1 : XS (sR G r 155 (some 3)) := XS.of hX (fun x f z => by rw [hR_sR, if_neg (by omega)]) (fun _ _ => ⟨rfl, rfl⟩)
  have hL1 : LSt (sR G r 155 (some 3)) 6 n em := hLt.of (Nat.le_refl _) (fun _ _ => ⟨rfl, rfl⟩) rfl (by rw [hR_sR, if_neg (by omega)]) (by omega)
  have h7 := x_init7 (d := d - 1) (G := sR G r 155 (some 3)) (r := r) (k := k) (a := a) (b := b) (p := nI 0) (q := q) (by rw [hT_sR]; omega) hr h184 hX1 hL1 (by omega)
  unfold i8
  rw [en312]
  simp (disch := omega) only [rX8_init_0, rX8_init_1, rX8_init_2, rX8_init_5, rX8_init_6, rX8_init_7, rX8_init_8, rX8_init_9, rX8_init_11, rX8_init_12, rX8_init_14, rX8_init_17, psh_some, psh_none, bnd_r1, bnd_r0, b01_0, b01_1, lg_lt, lg_eq, lg_gt, lg_ge, lg_le, reduceIte, Bool.false_eq_true, and_true, true_and, and_false, false_and, not_true_eq_false, not_false_eq_true, eq_self, o1, h7]
/-- a new object of tag t -/
theorem mk_ok {t c : Nat} (hX : XS G) (hLt : LSt G 6 n em) (h184 : 184 ≤ hN G) : hT (mkx G t 0 1 c) (hN G) = t ∧ XS (mkx G t 0 1 c) ∧ LSt (mkx G t 0 1 c) 6 n em := by
  have hm : ∀ x, x < hN G → ¬ x = hN G := fun x hx => by omega
  exact ⟨by rw [hT_mkx, if_pos rfl], XS.of hX (fun x f z => by rw [hR_mkx, if_neg (by omega)]) (fun x z => ⟨by rw [hT_mkx, if_neg (by omega)], by rw [hL_mkx, if_neg (by omega)]⟩), hLt.of (Nat.le_succ _) (fun x hx => ⟨by rw [hT_mkx, if_neg (hm x hx)], by rw [hL_mkx, if_neg (hm x hx)]⟩) (by rw [hI_mkx, if_neg (by omega)]) (by rw [hR_mkx, if_neg (by omega)]) h184⟩
theorem x_made {k : Nat} {a b p q : Int32} (hk : k ≤ 4) (hX : XS G) (hLt : LSt G 6 n em) (h184 : 184 ≤ hN G) (hd : 6 ≤ d) : cl d 51 [vr (some 3), vi (nI k), vi a, vi b, vi p, vi q] G = some (.inl (some (vr (some (hN G)))), meK G k a b p q (nI n)) := by
  rw [en51]
  unfold meK
  have hput : ∀ t c i, 184 ≤ hN G → XS (sR (mkx G t 0 1 c) (hN G) i (some 3)) ∧ LSt (sR (mkx G t 0 1 c) (hN G) i (some 3)) 6 n em ∧ hT (sR (mkx G t 0 1 c) (hN G) i (some 3)) (hN G) = t ∧ hN G < hN (sR (mkx G t 0 1 c) (hN G) i (some 3)) := fun t c i _ => by
    obtain ⟨t1, t2, t3⟩ := mk_ok (t := t) (c := c) hX hLt h184
    exact ⟨XS.of t2 (fun x f z => by rw [hR_sR, if_neg (by omega)]) (fun _ _ => ⟨rfl, rfl⟩), t3.of (Nat.le_refl _) (fun _ _ => ⟨rfl, rfl⟩) rfl (by rw [hR_sR, if_neg (by omega)]) (Nat.le_succ_of_le h184), by rw [hT_sR]; exact t1, Nat.lt_succ_self _⟩
  rcases (show k = 0 ∨ k = 1 ∨ k = 2 ∨ k = 3 ∨ k = 4 by omega) with rfl | rfl | rfl | rfl | rfl
  · obtain ⟨t1, t2, t3⟩ := mk_ok (t := 7) (c := 11) hX hLt h184
    have hi := x_init7 (d := d - 1) (G := mkx G 7 0 1 11) (r := hN G) (k := nI 0) (a := a) (b := b) (p := p) (q := q) (by omega) (Nat.lt_succ_self _) h184 t2 t3 (by omega)
    rw [if_pos rfl]
    simp (disch := omega) only [rX0_made_0, rX0_made_1_k0, rX0_made_1_k1, rX0_made_1_k2, rX0_made_1_k3, rX0_made_1_df, rX0_made_32, rX0_made_35, rX0_made_36, rX0_made_37, rX0_made_38, rX0_made_39, rX0_made_40, rX0_made_42, rX0_made_44, rX0_made_47, psh_some, psh_none, bnd_r1, bnd_r0, b01_0, b01_1, lg_lt, lg_eq, lg_gt, lg_ge, lg_le, reduceIte, Bool.false_eq_true, and_true, true_and, and_false, false_and, not_true_eq_false, not_false_eq_true, eq_self, nI_add, nI_mul, nI_div, nI_irm, nI_subk, inb_ok, ix_ok, nI_lt_t, nI_lt_f, nI_le_t, nI_le_f, nI_eq_t, nI_eq_f, nI_z, ifb, ifbn, b01_bI, b01_n, Nat.reduceEqDiff, nl_l, nl_n, nl_i, nl_r, Bool.true_eq_false, reduceIte, if_true, if_false, hi]
  · obtain ⟨t1, t2, t3⟩ := mk_ok (t := 8) (c := 12) hX hLt h184
    have hi := x_init8 (d := d - 1) (G := mkx G 8 0 1 12) (r := hN G) (k := nI 1) (a := a) (b := b) (q := q) (by omega) (Nat.lt_succ_self _) h184 t2 t3 (by omega)
    rw [if_neg (by decide), if_pos rfl]
    simp (disch := omega) only [rX0_made_0, rX0_made_1_k0, rX0_made_1_k1, rX0_made_1_k2, rX0_made_1_k3, rX0_made_1_df, rX0_made_48, rX0_made_51, rX0_made_52, rX0_made_53, rX0_made_54, rX0_made_55, rX0_made_56, rX0_made_58, rX0_made_61, psh_some, psh_none, bnd_r1, bnd_r0, b01_0, b01_1, lg_lt, lg_eq, lg_gt, lg_ge, lg_le, reduceIte, Bool.false_eq_true, and_true, true_and, and_false, false_and, not_true_eq_false, not_false_eq_true, eq_self, nI_add, nI_mul, nI_div, nI_irm, nI_subk, inb_ok, ix_ok, nI_lt_t, nI_lt_f, nI_le_t, nI_le_f, nI_eq_t, nI_eq_f, nI_z, ifb, ifbn, b01_bI, b01_n, Nat.reduceEqDiff, nl_l, nl_n, nl_i, nl_r, Bool.true_eq_false, reduceIte, if_true, if_false, hi]
  · obtain ⟨t1, t2, t3, t4⟩ := hput 9 13 180 h184
    have hi := x_init8 (d := d - 1 - 1) (G := sR (mkx G 9 0 1 13) (hN G) 180 (some 3)) (r := hN G) (k := nI 2) (a := a) (b := b) (q := q) (by omega) t4 h184 t1 t2 (by omega)
    have hj : cl (d - 1) 315 [vr (some (hN G)), vr (some 3), vi a, vi b, vi q] (mkx G 9 0 1 13) = some (.inl none, i8 (sR (mkx G 9 0 1 13) (hN G) 180 (some 3)) (hN G) (nI 2) a b q (nI n)) := by
      have o1 : okF (hT (mkx G 9 0 1 13) (hN G)) 180 = true := by rw [hT_mkx, if_pos rfl]; decide
      rw [en315]
      simp (disch := omega) only [rX9_init_0, rX9_init_1, rX9_init_2, rX9_init_5, rX9_init_6, rX9_init_7, rX9_init_8, rX9_init_9, rX9_init_10, rX9_init_12, rX9_init_15, psh_some, psh_none, bnd_r1, bnd_r0, b01_0, b01_1, lg_lt, lg_eq, lg_gt, lg_ge, lg_le, reduceIte, Bool.false_eq_true, and_true, true_and, and_false, false_and, not_true_eq_false, not_false_eq_true, eq_self, o1, hi]
    rw [if_neg (by decide), if_neg (by decide), if_pos rfl]
    simp (disch := omega) only [rX0_made_0, rX0_made_1_k0, rX0_made_1_k1, rX0_made_1_k2, rX0_made_1_k3, rX0_made_1_df, rX0_made_62, rX0_made_65, rX0_made_66, rX0_made_67, rX0_made_68, rX0_made_69, rX0_made_71, rX0_made_74, psh_some, psh_none, bnd_r1, bnd_r0, b01_0, b01_1, lg_lt, lg_eq, lg_gt, lg_ge, lg_le, reduceIte, Bool.false_eq_true, and_true, true_and, and_false, false_and, not_true_eq_false, not_false_eq_true, eq_self, nI_add, nI_mul, nI_div, nI_irm, nI_subk, inb_ok, ix_ok, nI_lt_t, nI_lt_f, nI_le_t, nI_le_f, nI_eq_t, nI_eq_f, nI_z, ifb, ifbn, b01_bI, b01_n, Nat.reduceEqDiff, nl_l, nl_n, nl_i, nl_r, Bool.true_eq_false, reduceIte, if_true, if_false, hj]
  · obtain ⟨t1, t2, t3, t4⟩ := hput 10 10 151 h184
    have hi := x_init6 (d := d - 1 - 1) (G := sR (mkx G 10 0 1 10) (hN G) 151 (some 3)) (r := hN G) (k := nI 3) (a := a) (b := b) (by rw [t3]; decide) t4 h184 t1 t2 (by omega)
    have hj : cl (d - 1) 318 [vr (some (hN G)), vr (some 3), vi a, vi b, vi p] (mkx G 10 0 1 10) = some (.inl none, sI (i6 (sR (mkx G 10 0 1 10) (hN G) 151 (some 3)) (hN G) (nI 3) a b (nI n)) (hN G) 150 p) := by
      have o1 : okF (hT (mkx G 10 0 1 10) (hN G)) 151 = true := by rw [hT_mkx, if_pos rfl]; decide
      have o2 : okF (hT (i6 (sR (mkx G 10 0 1 10) (hN G) 151 (some 3)) (hN G) (nI 3) a b (nI n)) (hN G)) 150 = true := by
        rw [i6_T, if_neg (by omega), if_neg (by omega), t3]; decide
      rw [en318]
      simp (disch := omega) only [rX10_init_0, rX10_init_1, rX10_init_2, rX10_init_5, rX10_init_6, rX10_init_7, rX10_init_8, rX10_init_9, rX10_init_10, rX10_init_13, rX10_init_14, rX10_init_16, rX10_init_19, psh_some, psh_none, bnd_r1, bnd_r0, b01_0, b01_1, lg_lt, lg_eq, lg_gt, lg_ge, lg_le, reduceIte, Bool.false_eq_true, and_true, true_and, and_false, false_and, not_true_eq_false, not_false_eq_true, eq_self, o1, o2, hi]
    rw [if_neg (by decide), if_neg (by decide), if_neg (by decide), if_pos rfl]
    simp (disch := omega) only [rX0_made_0, rX0_made_1_k0, rX0_made_1_k1, rX0_made_1_k2, rX0_made_1_k3, rX0_made_1_df, rX0_made_75, rX0_made_78, rX0_made_79, rX0_made_80, rX0_made_81, rX0_made_82, rX0_made_84, rX0_made_87, psh_some, psh_none, bnd_r1, bnd_r0, b01_0, b01_1, lg_lt, lg_eq, lg_gt, lg_ge, lg_le, reduceIte, Bool.false_eq_true, and_true, true_and, and_false, false_and, not_true_eq_false, not_false_eq_true, eq_self, nI_add, nI_mul, nI_div, nI_irm, nI_subk, inb_ok, ix_ok, nI_lt_t, nI_lt_f, nI_le_t, nI_le_f, nI_eq_t, nI_eq_f, nI_z, ifb, ifbn, b01_bI, b01_n, Nat.reduceEqDiff, nl_l, nl_n, nl_i, nl_r, Bool.true_eq_false, reduceIte, if_true, if_false, hj]
  · obtain ⟨t1, t2, t3, t4⟩ := hput 11 14 157 h184
    have hi := x_init8 (d := d - 1 - 1) (G := sR (mkx G 11 0 1 14) (hN G) 157 (some 3)) (r := hN G) (k := nI 4) (a := a) (b := b) (q := q) (by omega) t4 h184 t1 t2 (by omega)
    have hj : cl (d - 1) 323 [vr (some (hN G)), vr (some 3), vi a, vi b, vi p, vi q] (mkx G 11 0 1 14) = some (.inl none, sI (i8 (sR (mkx G 11 0 1 14) (hN G) 157 (some 3)) (hN G) (nI 4) a b q (nI n)) (hN G) 156 p) := by
      have o1 : okF (hT (mkx G 11 0 1 14) (hN G)) 157 = true := by rw [hT_mkx, if_pos rfl]; decide
      have o2 : okF (hT (i8 (sR (mkx G 11 0 1 14) (hN G) 157 (some 3)) (hN G) (nI 4) a b q (nI n)) (hN G)) 156 = true := by
        have : hT (i8 (sR (mkx G 11 0 1 14) (hN G) 157 (some 3)) (hN G) (nI 4) a b q (nI n)) (hN G) = hT (sR (mkx G 11 0 1 14) (hN G) 157 (some 3)) (hN G) := by
          unfold i8 i7
          rw [hT_sI, hT_sI, i6_T, if_neg (by simp only [hN_sR, hN_mkx]; omega), if_neg (by simp only [hN_sR, hN_mkx]; omega), hT_sR, hT_sR]
        rw [this, t3]; decide
      rw [en323]
      simp (disch := omega) only [rX11_init_0, rX11_init_1, rX11_init_2, rX11_init_5, rX11_init_6, rX11_init_7, rX11_init_8, rX11_init_9, rX11_init_10, rX11_init_12, rX11_init_15, rX11_init_16, rX11_init_18, rX11_init_21, psh_some, psh_none, bnd_r1, bnd_r0, b01_0, b01_1, lg_lt, lg_eq, lg_gt, lg_ge, lg_le, reduceIte, Bool.false_eq_true, and_true, true_and, and_false, false_and, not_true_eq_false, not_false_eq_true, eq_self, o1, o2, hi]
    have hdf := fun L st => rX0_made_1_df (d := d) (G := G) (x := nI 4) (by decide) (L := L) (st := st)
    rw [if_neg (by decide), if_neg (by decide), if_neg (by decide), if_neg (by decide)]
    simp (disch := omega) only [rX0_made_0, rX0_made_88, rX0_made_91, rX0_made_92, rX0_made_93, rX0_made_94, rX0_made_95, rX0_made_97, rX0_made_99, rX0_made_102, hdf, psh_some, psh_none, bnd_r1, bnd_r0, b01_0, b01_1, lg_lt, lg_eq, lg_gt, lg_ge, lg_le, reduceIte, Bool.false_eq_true, and_true, true_and, and_false, false_and, not_true_eq_false, not_false_eq_true, eq_self, nI_add, nI_mul, nI_div, nI_irm, nI_subk, inb_ok, ix_ok, nI_lt_t, nI_lt_f, nI_le_t, nI_le_f, nI_eq_t, nI_eq_f, nI_z, ifb, ifbn, b01_bI, b01_n, Nat.reduceEqDiff, nl_l, nl_n, nl_i, nl_r, Bool.true_eq_false, reduceIte, if_true, if_false, hj]
end
