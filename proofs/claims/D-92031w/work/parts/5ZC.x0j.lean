/-! the class: copy -/
/-- a sheet's values fit its lane -/
def fitL (L : Nat) (x : Int64) : Prop := (L = 0 → -128 ≤ x.toInt ∧ x.toInt ≤ 127) ∧ (L = 1 → -32768 ≤ x.toInt ∧ x.toInt ≤ 32767)
def HFt (s : SGT) (h : Nat → Nat → Int64) : Prop := ∀ k, k < 4 → ∀ i, i + 1 < s 23 k → fitL (s 24 k) (h k i)
theorem lcv_fit {L : Nat} {v : Int64} : fitL L (lcv L v) := by
  refine ⟨fun e => ?_, fun e => ?_⟩
  · subst e
    show -128 ≤ (v.toInt32.toInt8.toInt32.toInt64).toInt ∧ (v.toInt32.toInt8.toInt32.toInt64).toInt ≤ 127
    rw [Int32.toInt_toInt64, Int8.toInt_toInt32]
    have h1 := Int8.le_toInt v.toInt32.toInt8
    have h2 := Int8.toInt_lt v.toInt32.toInt8
    omega
  · subst e
    show -32768 ≤ (v.toInt32.toInt16.toInt32.toInt64).toInt ∧ (v.toInt32.toInt16.toInt32.toInt64).toInt ≤ 32767
    rw [Int32.toInt_toInt64, Int16.toInt_toInt32]
    have h1 := Int16.le_toInt v.toInt32.toInt16
    have h2 := Int16.toInt_lt v.toInt32.toInt16
    omega
theorem fit_0 {L : Nat} : fitL L 0 := ⟨fun _ => by decide, fun _ => by decide⟩
theorem fit_42 {x : Int32} {v : Int64} (e : x.toInt64 = v) (h : fitL 0 v) : fitI 42 x = true := by
  have := h.1 rfl
  rw [← e, Int32.toInt_toInt64] at this
  show (decide ((-128 : Int32) ≤ x) && decide (x ≤ (127 : Int32))) = true
  rw [decide_eq_true (Int32.le_iff_toInt_le.mpr (show (-128 : Int32).toInt ≤ x.toInt from this.1)), decide_eq_true (Int32.le_iff_toInt_le.mpr (show x.toInt ≤ (127 : Int32).toInt from this.2))]
  rfl
theorem fit_43 {x : Int32} {v : Int64} (e : x.toInt64 = v) (h : fitL 1 v) : fitI 43 x = true := by
  have := h.2 rfl
  rw [← e, Int32.toInt_toInt64] at this
  show (decide ((-32768 : Int32) ≤ x) && decide (x ≤ (32767 : Int32))) = true
  rw [decide_eq_true (Int32.le_iff_toInt_le.mpr (show (-32768 : Int32).toInt ≤ x.toInt from this.1)), decide_eq_true (Int32.le_iff_toInt_le.mpr (show x.toInt ≤ (32767 : Int32).toInt from this.2))]
  rfl
def cpL (L : Nat) (G : AH) (a sp b dp n : Nat) : AH := if L = 3 then cpJ G a sp b dp n else cpI G a sp b dp n
section
variable {d n r m : Nat} {G G' K : AH} {s s' σ : SGT} {h h' : Nat → Nat → Int64} {w w' : Int32} {et em : Nat} {rt rm : Nat → Nat} {l f : List Nat} {P : Nat → Bool}
theorem Ly.cpI {a sp dp : Nat} : Ly r G (cpI G a sp r dp n) := ⟨rfl, rfl, rfl, fun _ _ => rfl, fun _ _ q => if_neg (fun z => q z.1), fun _ _ _ => rfl, Gb.refl G⟩
theorem Ly.cpJ {a sp dp : Nat} : Ly r G (cpJ G a sp r dp n) := ⟨rfl, rfl, rfl, fun _ _ => rfl, fun _ _ _ => rfl, fun _ _ q => if_neg (fun z => q z.1), Gb.refl G⟩
theorem cpL_ly {L a sp dp : Nat} : Ly r G (cpL L G a sp r dp n) := by
  unfold cpL
  by_cases q : L = 3
  · rw [if_pos q]; exact Ly.cpJ
  · rw [if_neg q]; exact Ly.cpI
theorem cpL_v {L a sp dp j : Nat} : shV (cpL L G a sp r dp n) r L j = if dp ≤ j ∧ j < dp + n then shV G a L (sp + (j - dp)) else shV G r L j := by
  unfold cpL shV
  by_cases q : L = 3
  · simp only [if_pos q]
    by_cases e : dp ≤ j ∧ j < dp + n
    · rw [if_pos e]; exact if_pos ⟨rfl, e⟩
    · rw [if_neg e]; exact if_neg (fun z => e z.2)
  · simp only [if_neg q]
    by_cases e : dp ≤ j ∧ j < dp + n
    · rw [if_pos e]; exact congrArg Int32.toInt64 (if_pos ⟨rfl, e⟩)
    · rw [if_neg e]; exact congrArg Int32.toInt64 (if_neg (fun z => e z.2))
theorem At_cpx {y pc k c rk t : Nat} {cc : ByteArray} {L : AL} {st : List AV} {v1 v2 v3 v4 v5 : AV} (hm : mcode y = cc) (hc : mcls y = c) (hr : mret y = rk) (hd : decode cc pc = .ok (.invokestatic k, 3)) (hk : callR (kf c k) = some (5, [(997, 1001)])) (hs : sCopy y pc L [v1, v2, v3, v4, v5] st G = sX y pc t G) (hw : wt st ≤ 16) : At d y pc L (v5 :: v4 :: v3 :: v2 :: v1 :: st) G = AtS d y pc L t (v5 :: v4 :: v3 :: v2 :: v1 :: st) G := by
  refine At_S hm hc hr hd rfl ?_
  show sCallAt y (kf c k) 0 pc 3 L (v5 :: v4 :: v3 :: v2 :: v1 :: st) G = _
  unfold sCallAt
  rw [hk]
  show (if wt st ≤ 16 then sCopy y pc L [v1, v2, v3, v4, v5] st G else none) = _
  rw [if_pos hw]
  exact hs
/-- a copy between two sheets of a lane -/
theorem cp_lane {y pc a i b j n L : Nat} {Lc : AL} {st : List AV} (hL4 : L < 4) (ha : hT G a = ltg L) (hb : hT G b = ltg L) (hi : i + n ≤ hL G a) (hj : j + n ≤ hL G b) (hla : hL G a ≤ 64) (hlb : hL G b ≤ 64) (hf : ∀ z, z < n → fitL L (shV G a L (i + z))) : sCopy y pc Lc [vr (some a), vi (nI i), vr (some b), vi (nI j), vi (nI n)] st G = some (.inl (pc + 3, Lc, st, cpL L G a i b j n)) := by
  have hlt := ltg_r (L := L)
  have hcond : 0 ≤ nI i ∧ 0 ≤ nI j ∧ 0 ≤ nI n ∧ (nI i).toInt + (nI n).toInt ≤ (hL G a : Int) ∧ (nI j).toInt + (nI n).toInt ≤ (hL G b : Int) := by
    refine ⟨?_, ?_, ?_, ?_, ?_⟩
    · exact Int32.le_iff_toInt_le.mpr (by rw [nI_toInt (by omega)]; show (0 : Int) ≤ _; omega)
    · exact Int32.le_iff_toInt_le.mpr (by rw [nI_toInt (by omega)]; show (0 : Int) ≤ _; omega)
    · exact Int32.le_iff_toInt_le.mpr (by rw [nI_toInt (by omega)]; show (0 : Int) ≤ _; omega)
    · rw [nI_toInt (by omega), nI_toInt (by omega)]; omega
    · rw [nI_toInt (by omega), nI_toInt (by omega)]; omega
  show (if 40 ≤ hT G a ∧ hT G a < 60 ∧ 40 ≤ hT G b ∧ hT G b < 60 then _ else _) = _
  rw [if_pos (by omega), if_neg (fun z => by omega), if_pos (by omega), if_pos hcond, ix_ok (by omega), ix_ok (by omega), ix_ok (by omega)]
  unfold cpL
  rcases (show L = 0 ∨ L = 1 ∨ L = 2 ∨ L = 3 by omega) with rfl | rfl | rfl | rfl
  · have h1 : hT G a = 42 := ha
    rw [h1, if_neg (by decide), if_neg (by decide), if_pos (by decide), if_pos, if_neg (by decide)]
    · rfl
    · rw [List.all_eq_true]
      exact fun z hz => fit_42 rfl (hf z (List.mem_range.mp hz))
  · have h1 : hT G a = 43 := ha
    rw [h1, if_neg (by decide), if_neg (by decide), if_pos (by decide), if_pos, if_neg (by decide)]
    · rfl
    · rw [List.all_eq_true]
      exact fun z hz => fit_43 rfl (hf z (List.mem_range.mp hz))
  · have h1 : hT G a = 40 := ha
    rw [h1, if_neg (by decide), if_neg (by decide), if_pos (by decide), if_pos, if_neg (by decide)]
    · rfl
    · rw [List.all_eq_true]
      exact fun _ _ => rfl
  · have h1 : hT G a = 41 := ha
    rw [h1, if_pos rfl, if_pos rfl]
    rfl
theorem cp_out {y pc a b : Nat} {i j n : Int32} {L : Nat} {Lc : AL} {st : List AV} (ha : hT G a = ltg L) (hb : hT G b = ltg L) (hn : (beyond i n.toInt (hL G a) || beyond j n.toInt (hL G b)) = true) : sCopy y pc Lc [vr (some a), vi i, vr (some b), vi j, vi n] st G = sX y pc 22 G := by
  have hlt := ltg_r (L := L)
  show (if 40 ≤ hT G a ∧ hT G a < 60 ∧ 40 ≤ hT G b ∧ hT G b < 60 then _ else _) = _
  rw [if_pos (by omega), if_neg (fun z => by omega), if_pos (by omega), if_neg]
  rintro ⟨q1, q2, q3, q4, q5⟩
  have q1 := Int32.le_iff_toInt_le.mp q1
  have q2 := Int32.le_iff_toInt_le.mp q2
  have q3 := Int32.le_iff_toInt_le.mp q3
  have e0 : (0 : Int32).toInt = 0 := rfl
  rw [e0] at q1 q2 q3
  unfold beyond at hn
  simp only [Bool.or_eq_true, decide_eq_true_eq] at hn
  omega
theorem cp_kind {y pc a b : Nat} {i j n : Int32} {L M : Nat} {Lc : AL} {st : List AV} (ha : hT G a = ltg L) (hb : hT G b = ltg M) (hL4 : L < 4) (hM4 : M < 4) (hn : L ≠ M) : sCopy y pc Lc [vr (some a), vi i, vr (some b), vi j, vi n] st G = sX y pc 24 G := by
  have hlt := ltg_r (L := L)
  have hlm := ltg_r (L := M)
  have hne : ltg L ≠ ltg M := by
    rcases (show L = 0 ∨ L = 1 ∨ L = 2 ∨ L = 3 by omega) with rfl | rfl | rfl | rfl <;> rcases (show M = 0 ∨ M = 1 ∨ M = 2 ∨ M = 3 by omega) with rfl | rfl | rfl | rfl <;> first | exact absurd rfl hn | decide
  show (if 40 ≤ hT G a ∧ hT G a < 60 ∧ 40 ≤ hT G b ∧ hT G b < 60 then _ else _) = _
  rw [if_pos (by omega), if_neg (fun z => by omega), if_neg (fun z => by omega), if_pos (by omega)]
theorem cpN_null {y pc : Nat} {o p : Option Nat} {i j n : Int32} {Lc : AL} {st : List AV} (hn : o = none ∨ p = none) : sCopy y pc Lc [vr o, vi i, vr p, vi j, vi n] st G = sX y pc 20 G := by
  rcases hn with rfl | rfl
  · rfl
  · cases o <;> rfl
theorem rX0_copy_44s {a i b j n L : Nat} {Lc : AL} (hL4 : L < 4) (ha : hT G a = ltg L) (hb : hT G b = ltg L) (hi : i + n ≤ hL G a) (hj : j + n ≤ hL G b) (hla : hL G a ≤ 64) (hlb : hL G b ≤ 64) (hf : ∀ z, z < n → fitL L (shV G a L (i + z))) : At d 140 44 Lc [vi (nI n), vi (nI j), vr (some b), vi (nI i), vr (some a)] G = At d 140 47 Lc [] (cpL L G a i b j n) := At_copy (A := []) mc140 mk140 mr140 dX0_copy_44 rfl (cp_lane hL4 ha hb hi hj hla hlb hf) (by decide)
theorem rX0_copy_44x {o p : Option Nat} {i j n : Int32} {Lc : AL} {t k : Nat} (hs : sCopy 140 44 Lc [vr o, vi i, vr p, vi j, vi n] [] G = sX 140 44 t G) (hk : hnd 140 44 t = some k) : At d 140 44 Lc [vi n, vi j, vr p, vi i, vr o] G = At d 140 k Lc [vr (some (hN G))] (xcp G t) := by
  rw [At_cpx mc140 mk140 mr140 dX0_copy_44 rfl hs (by decide)]
  exact AtS_at (by decide) (Nat.le_of_ble_eq_true rfl) hk
set_option maxHeartbeats 1000000 in
theorem xo_copy {x i y j n : Int32} (hSI : SI s) (hFt : HFt s h) (hd : 20 ≤ d) : XO d 140 [vi x, vi i, vi y, vi j, vi n] s h w (vi (aCopy s x i y j n)) (sCopyS s x i y j n) (hCopy s h x i y j n) w := fun G hIn => by
  have hX0 := hIn.xs.1
  rw [en140]
  simp (disch := omega) only [rX0_copy_0, rX0_copy_1, rX0_copy_2, psh_some, psh_none, bnd_r1, bnd_r0, b01_0, b01_1, lg_lt, lg_eq, lg_gt, lg_ge, lg_le, reduceIte, Bool.false_eq_true, and_true, true_and, and_false, false_and, not_true_eq_false, not_false_eq_true, eq_self, nI_add, nI_mul, nI_div, nI_irm, nI_subk, inb_ok, ix_ok, nI_lt_t, nI_lt_f, nI_le_t, nI_le_f, nI_eq_t, nI_eq_f, nI_z, ifb, ifbn, b01_bI, b01_n, Nat.reduceEqDiff, nl_l, nl_n, nl_i, nl_r, Bool.true_eq_false, reduceIte, if_true, if_false, ok0_0, ok0_1, ok0_2, ok0_3, ok0_4, ok0_5, ok0_6, ok0_7, ok0_8, ok0_9, ok0_10, ok0_11, ok0_12, ok0_13, ok0_14, ok0_15, ok0_16, ok0_17, ok0_18, ok0_19, ok0_20, ok0_21, ok0_22, ok0_23, ok0_24, ok0_25, ok0_26, ok0_27, ok0_28, ok0_29, ok0_30, ok0_31, ok0_32, ok0_33, ok0_34, ok0_35, ok0_36, ok0_37, ok0_38, ok0_39, ok0_40, ok0_41, ok0_42, ok0_43, ok0_44, ok0_45, ok0_46, ok0_47, ok0_48, ok0_49, ok0_50, ok0_51, ok0_52, ok0_53, ok0_54, ok1_141, ok2_55, ok2_56, ok2_57, ok2_58, ok2_59, ok2_60, ok2_61, ok2_62, ok2_63, ok2_64, ok2_65, ok2_66, ok2_67, ok2_68, ok2_69, ok2_70, ok2_71, ok2_72, ok2_73, ok2_74, ok2_75, ok2_76, ok2_77, ok2_78, ok2_79, ok2_80, ok2_81, ok2_82, ok2_83, ok2_84, ok2_85, ok2_86, ok2_87, ok2_88, ok2_89, ok2_90, ok2_91, ok2_92, ok2_93, ok2_94, ok2_95, ok2_96, ok2_97, ok2_98, ok2_99, ok2_100, ok2_101, ok2_102, ok2_103, ok2_104, ok2_105, ok2_106, ok2_107, ok2_108, ok2_109, ok2_110, ok2_111, ok2_112, ok2_113, ok2_114, ok2_115, ok2_116, ok2_117, ok2_118, ok2_119, ok2_120, ok2_121, ok2_122, ok2_123, ok2_124, ok2_125, ok2_126, ok2_127, ok2_128, ok2_129, ok2_130, ok2_131, ok2_132, ok2_133, ok2_134, ok2_135, ok2_136, ok2_137, ok3_171, ok3_172, ok3_173, ok3_174, ok3_175, ok3_176, ok4_171, ok4_172, ok4_173, ok4_174, ok4_175, ok4_176, ok4_177, ok4_178, ok5_171, ok5_172, ok5_173, ok5_174, ok5_175, ok5_176, ok5_177, ok5_178, ok5_179, ok7_142, ok7_143, ok7_144, ok7_145, ok7_146, ok7_147, ok7_148, ok7_149, ok7_152, ok7_153, ok7_154, ok8_142, ok8_143, ok8_144, ok8_145, ok8_146, ok8_147, ok8_148, ok8_149, ok8_152, ok8_153, ok8_154, ok8_155, ok9_142, ok9_143, ok9_144, ok9_145, ok9_146, ok9_147, ok9_148, ok9_149, ok9_152, ok9_153, ok9_154, ok9_155, ok9_180, ok10_142, ok10_143, ok10_144, ok10_145, ok10_146, ok10_147, ok10_148, ok10_149, ok10_150, ok10_151, ok11_142, ok11_143, ok11_144, ok11_145, ok11_146, ok11_147, ok11_148, ok11_149, ok11_152, ok11_153, ok11_154, ok11_155, ok11_156, ok11_157, ok13_158, ok13_159, ok13_160, ok13_161, ok13_162, ok13_163, ok13_164, ok13_165, ok13_166, ok13_167, ok13_168, ok13_169, ok13_170, ok16_138, ok16_139, ok16_140, ct_a, ct_a5, ct_b, ct_c, ct_d, ct_r50, ct_r51, ct_r52, ct_r53, ct_r54, xs_T, xsR_5, xsT_4, xsL_4, xsR_6, xsT_5, xsL_5, xsR_7, xsT_6, xsL_6, xsR_8, xsT_7, xsL_7, xsR_9, xsT_8, xsL_8, xsR_10, xsT_9, xsL_9, xsR_14, xsT_10, xsL_10, xsR_17, xsT_11, xsL_11, xsR_18, xsT_12, xsL_12, xsR_24, xsT_13, xsL_13, xsR_25, xsT_14, xsL_14, xsR_26, xsT_24, xsL_24, xsR_28, xsT_106, xsL_106, xsR_34, xsT_107, xsL_107, xsR_41, xsT_108, xsL_108, xsR_42, xsT_109, xsL_109, xsR_43, xsT_110, xsL_110, xsR_44, xsT_111, xsL_111, xsR_46, xsT_112, xsL_112, xsR_52, xsT_121, xsL_121, xsR_53, xsT_122, xsL_122, xsR_54, xsT_131, xsL_131, hX0]
  have hI0 : CI (flt s 0) h w (sI G 3 0 (nI 0)) := hIn.fla
  have hF0 : Fq 0 0 G (sI G 3 0 (nI 0)) := Fq.sI3
  generalize sI G 3 0 (nI 0) = K at hI0 hF0
  obtain ⟨hXs, h184⟩ := hI0.xs
  have hh := x_isSheet (d := d - 1) (G := K) (x := x) (by omega)
  have hh2 := x_isSheet (d := d - 1) (G := K) (x := y) (by omega)
  have hout : (inR x 4 && inR y 4) = false → ∃ G', (some (.inl (some (vi (-1))), K) : Option (AO × AH)) = some (.inl (some (vi (aCopy s x i y j n))), G') ∧ Fx G G' ∧ CI (sCopyS s x i y j n) (hCopy s h x i y j n) w G' := fun q => by
    unfold aCopy sCopyS hCopy
    rw [q]
    exact ⟨K, rfl, hF0.fx (by omega) (by omega), hI0⟩
  rcases inR_of (x := x) (n := 4) (by omega) with ⟨k, hk, rfl, hx⟩ | hx
  · rcases inR_of (x := y) (n := 4) (by omega) with ⟨o, ho, rfl, hy⟩ | hy
    · rw [hx] at hh
      rw [hy] at hh2
      obtain ⟨r1, r2, r3⟩ := xs_sheets hXs hk
      obtain ⟨v1, v2, v3⟩ := xs_sheets hXs ho
      obtain ⟨hzk, hlk⟩ := hSI.2.2.2.1 k hk
      obtain ⟨hzo, hlo⟩ := hSI.2.2.2.1 o ho
      obtain ⟨t1, t2⟩ := hI0.sht hk
      rw [flt_at (by decide)] at t1 t2
      obtain ⟨t3, t4⟩ := hI0.sht ho
      rw [flt_at (by decide)] at t3 t4
      have hbad : ∀ t v' k' oa ob, hR K (132 + k) 141 = oa → hR K (132 + o) 141 = ob → sCopy 140 44 [some (vr (some 3)), some (vi (nI k)), some (vi i), some (vi (nI o)), some (vi j), some (vi n), none] [vr oa, vi i, vr ob, vi j, vi n] [] K = sX 140 44 t K → hnd 140 44 t = some k' → 12 ≤ t → fCopy s (nI k) i (nI o) j n = v' → ¬ v' = 0 → (∀ H, XS H → At d 140 k' [some (vr (some 3)), some (vi (nI k)), some (vi i), some (vi (nI o)), some (vi j), some (vi n), none] [vr (some (hN K))] H = some (.inl (some (vi (-10 - nI v'))), sI H 3 0 (nI v'))) → ∃ G', At d 140 5 [some (vr (some 3)), some (vi (nI k)), some (vi i), some (vi (nI o)), some (vi j), some (vi n), none] [] K = some (.inl (some (vi (aCopy s (nI k) i (nI o) j n))), G') ∧ Fx G G' ∧ CI (sCopyS s (nI k) i (nI o) j n) (hCopy s h (nI k) i (nI o) j n) w G' := fun t v' k' oa ob g1 g2 g3 g4 g5 g6 g7 g8 => by
        obtain ⟨b1, b2⟩ := hI0.bad (v := v') g5
        unfold aCopy sCopyS hCopy
        rw [hx, hy, g6]
        simp only [Bool.and_self, if_true, true_and, g7, if_false]
        refine ⟨_, ?_, (hF0.trans b2).fx (by omega) (by omega), b1⟩
        have hx44 := rX0_copy_44x (d := d) g3 g4
        have h8 := g8 _ (hI0.exc g5).xs.1
        simp (disch := omega) only [rX0_copy_5, rX0_copy_6, rX0_copy_9, rX0_copy_12, rX0_copy_13, rX0_copy_16, rX0_copy_19, rX0_copy_20, rX0_copy_21, rX0_copy_22, rX0_copy_25, rX0_copy_26, rX0_copy_27, rX0_copy_30, rX0_copy_31, rX0_copy_32, rX0_copy_35, rX0_copy_36, rX0_copy_37, rX0_copy_40, rX0_copy_42, psh_some, psh_none, bnd_r1, bnd_r0, b01_0, b01_1, lg_lt, lg_eq, lg_gt, lg_ge, lg_le, reduceIte, Bool.false_eq_true, and_true, true_and, and_false, false_and, not_true_eq_false, not_false_eq_true, eq_self, nI_add, nI_mul, nI_div, nI_irm, nI_subk, inb_ok, ix_ok, nI_lt_t, nI_lt_f, nI_le_t, nI_le_f, nI_eq_t, nI_eq_f, nI_z, ifb, ifbn, b01_bI, b01_n, Nat.reduceEqDiff, nl_l, nl_n, nl_i, nl_r, Bool.true_eq_false, reduceIte, if_true, if_false, ok0_0, ok0_1, ok0_2, ok0_3, ok0_4, ok0_5, ok0_6, ok0_7, ok0_8, ok0_9, ok0_10, ok0_11, ok0_12, ok0_13, ok0_14, ok0_15, ok0_16, ok0_17, ok0_18, ok0_19, ok0_20, ok0_21, ok0_22, ok0_23, ok0_24, ok0_25, ok0_26, ok0_27, ok0_28, ok0_29, ok0_30, ok0_31, ok0_32, ok0_33, ok0_34, ok0_35, ok0_36, ok0_37, ok0_38, ok0_39, ok0_40, ok0_41, ok0_42, ok0_43, ok0_44, ok0_45, ok0_46, ok0_47, ok0_48, ok0_49, ok0_50, ok0_51, ok0_52, ok0_53, ok0_54, ok1_141, ok2_55, ok2_56, ok2_57, ok2_58, ok2_59, ok2_60, ok2_61, ok2_62, ok2_63, ok2_64, ok2_65, ok2_66, ok2_67, ok2_68, ok2_69, ok2_70, ok2_71, ok2_72, ok2_73, ok2_74, ok2_75, ok2_76, ok2_77, ok2_78, ok2_79, ok2_80, ok2_81, ok2_82, ok2_83, ok2_84, ok2_85, ok2_86, ok2_87, ok2_88, ok2_89, ok2_90, ok2_91, ok2_92, ok2_93, ok2_94, ok2_95, ok2_96, ok2_97, ok2_98, ok2_99, ok2_100, ok2_101, ok2_102, ok2_103, ok2_104, ok2_105, ok2_106, ok2_107, ok2_108, ok2_109, ok2_110, ok2_111, ok2_112, ok2_113, ok2_114, ok2_115, ok2_116, ok2_117, ok2_118, ok2_119, ok2_120, ok2_121, ok2_122, ok2_123, ok2_124, ok2_125, ok2_126, ok2_127, ok2_128, ok2_129, ok2_130, ok2_131, ok2_132, ok2_133, ok2_134, ok2_135, ok2_136, ok2_137, ok3_171, ok3_172, ok3_173, ok3_174, ok3_175, ok3_176, ok4_171, ok4_172, ok4_173, ok4_174, ok4_175, ok4_176, ok4_177, ok4_178, ok5_171, ok5_172, ok5_173, ok5_174, ok5_175, ok5_176, ok5_177, ok5_178, ok5_179, ok7_142, ok7_143, ok7_144, ok7_145, ok7_146, ok7_147, ok7_148, ok7_149, ok7_152, ok7_153, ok7_154, ok8_142, ok8_143, ok8_144, ok8_145, ok8_146, ok8_147, ok8_148, ok8_149, ok8_152, ok8_153, ok8_154, ok8_155, ok9_142, ok9_143, ok9_144, ok9_145, ok9_146, ok9_147, ok9_148, ok9_149, ok9_152, ok9_153, ok9_154, ok9_155, ok9_180, ok10_142, ok10_143, ok10_144, ok10_145, ok10_146, ok10_147, ok10_148, ok10_149, ok10_150, ok10_151, ok11_142, ok11_143, ok11_144, ok11_145, ok11_146, ok11_147, ok11_148, ok11_149, ok11_152, ok11_153, ok11_154, ok11_155, ok11_156, ok11_157, ok13_158, ok13_159, ok13_160, ok13_161, ok13_162, ok13_163, ok13_164, ok13_165, ok13_166, ok13_167, ok13_168, ok13_169, ok13_170, ok16_138, ok16_139, ok16_140, ct_a, ct_a5, ct_b, ct_c, ct_d, ct_r50, ct_r51, ct_r52, ct_r53, ct_r54, xs_T, xsR_5, xsT_4, xsL_4, xsR_6, xsT_5, xsL_5, xsR_7, xsT_6, xsL_6, xsR_8, xsT_7, xsL_7, xsR_9, xsT_8, xsL_8, xsR_10, xsT_9, xsL_9, xsR_14, xsT_10, xsL_10, xsR_17, xsT_11, xsL_11, xsR_18, xsT_12, xsL_12, xsR_24, xsT_13, xsL_13, xsR_25, xsT_14, xsL_14, xsR_26, xsT_24, xsL_24, xsR_28, xsT_106, xsL_106, xsR_34, xsT_107, xsL_107, xsR_41, xsT_108, xsL_108, xsR_42, xsT_109, xsL_109, xsR_43, xsT_110, xsL_110, xsR_44, xsT_111, xsL_111, xsR_46, xsT_112, xsL_112, xsR_52, xsT_121, xsL_121, xsR_53, xsT_122, xsL_122, xsR_54, xsT_131, xsL_131, hXs, hh, hh2, r1, r2, r3, v1, v2, v3, g1, g2, hx44, h8]
      have h50 : ∀ H, XS H → At d 140 50 [some (vr (some 3)), some (vi (nI k)), some (vi i), some (vi (nI o)), some (vi j), some (vi n), none] [vr (some (hN K))] H = some (.inl (some (vi (-10 - nI 1))), sI H 3 0 (nI 1)) := fun H hH => by
        have hf := x_faulty (d := d - 1) (k := 1) hH
        simp (disch := omega) only [rX0_copy_50, rX0_copy_52, rX0_copy_53, rX0_copy_54, rX0_copy_57, psh_some, psh_none, bnd_r1, bnd_r0, b01_0, b01_1, lg_lt, lg_eq, lg_gt, lg_ge, lg_le, reduceIte, Bool.false_eq_true, and_true, true_and, and_false, false_and, not_true_eq_false, not_false_eq_true, eq_self, nI_add, nI_mul, nI_div, nI_irm, nI_subk, inb_ok, ix_ok, nI_lt_t, nI_lt_f, nI_le_t, nI_le_f, nI_eq_t, nI_eq_f, nI_z, ifb, ifbn, b01_bI, b01_n, Nat.reduceEqDiff, nl_l, nl_n, nl_i, nl_r, Bool.true_eq_false, reduceIte, if_true, if_false, ok0_0, ok0_1, ok0_2, ok0_3, ok0_4, ok0_5, ok0_6, ok0_7, ok0_8, ok0_9, ok0_10, ok0_11, ok0_12, ok0_13, ok0_14, ok0_15, ok0_16, ok0_17, ok0_18, ok0_19, ok0_20, ok0_21, ok0_22, ok0_23, ok0_24, ok0_25, ok0_26, ok0_27, ok0_28, ok0_29, ok0_30, ok0_31, ok0_32, ok0_33, ok0_34, ok0_35, ok0_36, ok0_37, ok0_38, ok0_39, ok0_40, ok0_41, ok0_42, ok0_43, ok0_44, ok0_45, ok0_46, ok0_47, ok0_48, ok0_49, ok0_50, ok0_51, ok0_52, ok0_53, ok0_54, ok1_141, ok2_55, ok2_56, ok2_57, ok2_58, ok2_59, ok2_60, ok2_61, ok2_62, ok2_63, ok2_64, ok2_65, ok2_66, ok2_67, ok2_68, ok2_69, ok2_70, ok2_71, ok2_72, ok2_73, ok2_74, ok2_75, ok2_76, ok2_77, ok2_78, ok2_79, ok2_80, ok2_81, ok2_82, ok2_83, ok2_84, ok2_85, ok2_86, ok2_87, ok2_88, ok2_89, ok2_90, ok2_91, ok2_92, ok2_93, ok2_94, ok2_95, ok2_96, ok2_97, ok2_98, ok2_99, ok2_100, ok2_101, ok2_102, ok2_103, ok2_104, ok2_105, ok2_106, ok2_107, ok2_108, ok2_109, ok2_110, ok2_111, ok2_112, ok2_113, ok2_114, ok2_115, ok2_116, ok2_117, ok2_118, ok2_119, ok2_120, ok2_121, ok2_122, ok2_123, ok2_124, ok2_125, ok2_126, ok2_127, ok2_128, ok2_129, ok2_130, ok2_131, ok2_132, ok2_133, ok2_134, ok2_135, ok2_136, ok2_137, ok3_171, ok3_172, ok3_173, ok3_174, ok3_175, ok3_176, ok4_171, ok4_172, ok4_173, ok4_174, ok4_175, ok4_176, ok4_177, ok4_178, ok5_171, ok5_172, ok5_173, ok5_174, ok5_175, ok5_176, ok5_177, ok5_178, ok5_179, ok7_142, ok7_143, ok7_144, ok7_145, ok7_146, ok7_147, ok7_148, ok7_149, ok7_152, ok7_153, ok7_154, ok8_142, ok8_143, ok8_144, ok8_145, ok8_146, ok8_147, ok8_148, ok8_149, ok8_152, ok8_153, ok8_154, ok8_155, ok9_142, ok9_143, ok9_144, ok9_145, ok9_146, ok9_147, ok9_148, ok9_149, ok9_152, ok9_153, ok9_154, ok9_155, ok9_180, ok10_142, ok10_143, ok10_144, ok10_145, ok10_146, ok10_147, ok10_148, ok10_149, ok10_150, ok10_151, ok11_142, ok11_143, ok11_144, ok11_145, ok11_146, ok11_147, ok11_148, ok11_149, ok11_152, ok11_153, ok11_154, ok11_155, ok11_156, ok11_157, ok13_158, ok13_159, ok13_160, ok13_161, ok13_162, ok13_163, ok13_164, ok13_165, ok13_166, ok13_167, ok13_168, ok13_169, ok13_170, ok16_138, ok16_139, ok16_140, ct_a, ct_a5, ct_b, ct_c, ct_d, ct_r50, ct_r51, ct_r52, ct_r53, ct_r54, xs_T, xsR_5, xsT_4, xsL_4, xsR_6, xsT_5, xsL_5, xsR_7, xsT_6, xsL_6, xsR_8, xsT_7, xsL_7, xsR_9, xsT_8, xsL_8, xsR_10, xsT_9, xsL_9, xsR_14, xsT_10, xsL_10, xsR_17, xsT_11, xsL_11, xsR_18, xsT_12, xsL_12, xsR_24, xsT_13, xsL_13, xsR_25, xsT_14, xsL_14, xsR_26, xsT_24, xsL_24, xsR_28, xsT_106, xsL_106, xsR_34, xsT_107, xsL_107, xsR_41, xsT_108, xsL_108, xsR_42, xsT_109, xsL_109, xsR_43, xsT_110, xsL_110, xsR_44, xsT_111, xsL_111, xsR_46, xsT_112, xsL_112, xsR_52, xsT_121, xsL_121, xsR_53, xsT_122, xsL_122, xsR_54, xsT_131, xsL_131, hH, hf]
      have h58 : ∀ H, XS H → At d 140 58 [some (vr (some 3)), some (vi (nI k)), some (vi i), some (vi (nI o)), some (vi j), some (vi n), none] [vr (some (hN K))] H = some (.inl (some (vi (-10 - nI 2))), sI H 3 0 (nI 2)) := fun H hH => by
        have hf := x_faulty (d := d - 1) (k := 2) hH
        simp (disch := omega) only [rX0_copy_58, rX0_copy_60, rX0_copy_61, rX0_copy_62, rX0_copy_65, psh_some, psh_none, bnd_r1, bnd_r0, b01_0, b01_1, lg_lt, lg_eq, lg_gt, lg_ge, lg_le, reduceIte, Bool.false_eq_true, and_true, true_and, and_false, false_and, not_true_eq_false, not_false_eq_true, eq_self, nI_add, nI_mul, nI_div, nI_irm, nI_subk, inb_ok, ix_ok, nI_lt_t, nI_lt_f, nI_le_t, nI_le_f, nI_eq_t, nI_eq_f, nI_z, ifb, ifbn, b01_bI, b01_n, Nat.reduceEqDiff, nl_l, nl_n, nl_i, nl_r, Bool.true_eq_false, reduceIte, if_true, if_false, ok0_0, ok0_1, ok0_2, ok0_3, ok0_4, ok0_5, ok0_6, ok0_7, ok0_8, ok0_9, ok0_10, ok0_11, ok0_12, ok0_13, ok0_14, ok0_15, ok0_16, ok0_17, ok0_18, ok0_19, ok0_20, ok0_21, ok0_22, ok0_23, ok0_24, ok0_25, ok0_26, ok0_27, ok0_28, ok0_29, ok0_30, ok0_31, ok0_32, ok0_33, ok0_34, ok0_35, ok0_36, ok0_37, ok0_38, ok0_39, ok0_40, ok0_41, ok0_42, ok0_43, ok0_44, ok0_45, ok0_46, ok0_47, ok0_48, ok0_49, ok0_50, ok0_51, ok0_52, ok0_53, ok0_54, ok1_141, ok2_55, ok2_56, ok2_57, ok2_58, ok2_59, ok2_60, ok2_61, ok2_62, ok2_63, ok2_64, ok2_65, ok2_66, ok2_67, ok2_68, ok2_69, ok2_70, ok2_71, ok2_72, ok2_73, ok2_74, ok2_75, ok2_76, ok2_77, ok2_78, ok2_79, ok2_80, ok2_81, ok2_82, ok2_83, ok2_84, ok2_85, ok2_86, ok2_87, ok2_88, ok2_89, ok2_90, ok2_91, ok2_92, ok2_93, ok2_94, ok2_95, ok2_96, ok2_97, ok2_98, ok2_99, ok2_100, ok2_101, ok2_102, ok2_103, ok2_104, ok2_105, ok2_106, ok2_107, ok2_108, ok2_109, ok2_110, ok2_111, ok2_112, ok2_113, ok2_114, ok2_115, ok2_116, ok2_117, ok2_118, ok2_119, ok2_120, ok2_121, ok2_122, ok2_123, ok2_124, ok2_125, ok2_126, ok2_127, ok2_128, ok2_129, ok2_130, ok2_131, ok2_132, ok2_133, ok2_134, ok2_135, ok2_136, ok2_137, ok3_171, ok3_172, ok3_173, ok3_174, ok3_175, ok3_176, ok4_171, ok4_172, ok4_173, ok4_174, ok4_175, ok4_176, ok4_177, ok4_178, ok5_171, ok5_172, ok5_173, ok5_174, ok5_175, ok5_176, ok5_177, ok5_178, ok5_179, ok7_142, ok7_143, ok7_144, ok7_145, ok7_146, ok7_147, ok7_148, ok7_149, ok7_152, ok7_153, ok7_154, ok8_142, ok8_143, ok8_144, ok8_145, ok8_146, ok8_147, ok8_148, ok8_149, ok8_152, ok8_153, ok8_154, ok8_155, ok9_142, ok9_143, ok9_144, ok9_145, ok9_146, ok9_147, ok9_148, ok9_149, ok9_152, ok9_153, ok9_154, ok9_155, ok9_180, ok10_142, ok10_143, ok10_144, ok10_145, ok10_146, ok10_147, ok10_148, ok10_149, ok10_150, ok10_151, ok11_142, ok11_143, ok11_144, ok11_145, ok11_146, ok11_147, ok11_148, ok11_149, ok11_152, ok11_153, ok11_154, ok11_155, ok11_156, ok11_157, ok13_158, ok13_159, ok13_160, ok13_161, ok13_162, ok13_163, ok13_164, ok13_165, ok13_166, ok13_167, ok13_168, ok13_169, ok13_170, ok16_138, ok16_139, ok16_140, ct_a, ct_a5, ct_b, ct_c, ct_d, ct_r50, ct_r51, ct_r52, ct_r53, ct_r54, xs_T, xsR_5, xsT_4, xsL_4, xsR_6, xsT_5, xsL_5, xsR_7, xsT_6, xsL_6, xsR_8, xsT_7, xsL_7, xsR_9, xsT_8, xsL_8, xsR_10, xsT_9, xsL_9, xsR_14, xsT_10, xsL_10, xsR_17, xsT_11, xsL_11, xsR_18, xsT_12, xsL_12, xsR_24, xsT_13, xsL_13, xsR_25, xsT_14, xsL_14, xsR_26, xsT_24, xsL_24, xsR_28, xsT_106, xsL_106, xsR_34, xsT_107, xsL_107, xsR_41, xsT_108, xsL_108, xsR_42, xsT_109, xsL_109, xsR_43, xsT_110, xsL_110, xsR_44, xsT_111, xsL_111, xsR_46, xsT_112, xsL_112, xsR_52, xsT_121, xsL_121, xsR_53, xsT_122, xsL_122, xsR_54, xsT_131, xsL_131, hH, hf]
      have h66 : ∀ H, XS H → At d 140 66 [some (vr (some 3)), some (vi (nI k)), some (vi i), some (vi (nI o)), some (vi j), some (vi n), none] [vr (some (hN K))] H = some (.inl (some (vi (-10 - nI 3))), sI H 3 0 (nI 3)) := fun H hH => by
        have hf := x_faulty (d := d - 1) (k := 3) hH
        simp (disch := omega) only [rX0_copy_66, rX0_copy_68, rX0_copy_69, rX0_copy_70, rX0_copy_73, psh_some, psh_none, bnd_r1, bnd_r0, b01_0, b01_1, lg_lt, lg_eq, lg_gt, lg_ge, lg_le, reduceIte, Bool.false_eq_true, and_true, true_and, and_false, false_and, not_true_eq_false, not_false_eq_true, eq_self, nI_add, nI_mul, nI_div, nI_irm, nI_subk, inb_ok, ix_ok, nI_lt_t, nI_lt_f, nI_le_t, nI_le_f, nI_eq_t, nI_eq_f, nI_z, ifb, ifbn, b01_bI, b01_n, Nat.reduceEqDiff, nl_l, nl_n, nl_i, nl_r, Bool.true_eq_false, reduceIte, if_true, if_false, ok0_0, ok0_1, ok0_2, ok0_3, ok0_4, ok0_5, ok0_6, ok0_7, ok0_8, ok0_9, ok0_10, ok0_11, ok0_12, ok0_13, ok0_14, ok0_15, ok0_16, ok0_17, ok0_18, ok0_19, ok0_20, ok0_21, ok0_22, ok0_23, ok0_24, ok0_25, ok0_26, ok0_27, ok0_28, ok0_29, ok0_30, ok0_31, ok0_32, ok0_33, ok0_34, ok0_35, ok0_36, ok0_37, ok0_38, ok0_39, ok0_40, ok0_41, ok0_42, ok0_43, ok0_44, ok0_45, ok0_46, ok0_47, ok0_48, ok0_49, ok0_50, ok0_51, ok0_52, ok0_53, ok0_54, ok1_141, ok2_55, ok2_56, ok2_57, ok2_58, ok2_59, ok2_60, ok2_61, ok2_62, ok2_63, ok2_64, ok2_65, ok2_66, ok2_67, ok2_68, ok2_69, ok2_70, ok2_71, ok2_72, ok2_73, ok2_74, ok2_75, ok2_76, ok2_77, ok2_78, ok2_79, ok2_80, ok2_81, ok2_82, ok2_83, ok2_84, ok2_85, ok2_86, ok2_87, ok2_88, ok2_89, ok2_90, ok2_91, ok2_92, ok2_93, ok2_94, ok2_95, ok2_96, ok2_97, ok2_98, ok2_99, ok2_100, ok2_101, ok2_102, ok2_103, ok2_104, ok2_105, ok2_106, ok2_107, ok2_108, ok2_109, ok2_110, ok2_111, ok2_112, ok2_113, ok2_114, ok2_115, ok2_116, ok2_117, ok2_118, ok2_119, ok2_120, ok2_121, ok2_122, ok2_123, ok2_124, ok2_125, ok2_126, ok2_127, ok2_128, ok2_129, ok2_130, ok2_131, ok2_132, ok2_133, ok2_134, ok2_135, ok2_136, ok2_137, ok3_171, ok3_172, ok3_173, ok3_174, ok3_175, ok3_176, ok4_171, ok4_172, ok4_173, ok4_174, ok4_175, ok4_176, ok4_177, ok4_178, ok5_171, ok5_172, ok5_173, ok5_174, ok5_175, ok5_176, ok5_177, ok5_178, ok5_179, ok7_142, ok7_143, ok7_144, ok7_145, ok7_146, ok7_147, ok7_148, ok7_149, ok7_152, ok7_153, ok7_154, ok8_142, ok8_143, ok8_144, ok8_145, ok8_146, ok8_147, ok8_148, ok8_149, ok8_152, ok8_153, ok8_154, ok8_155, ok9_142, ok9_143, ok9_144, ok9_145, ok9_146, ok9_147, ok9_148, ok9_149, ok9_152, ok9_153, ok9_154, ok9_155, ok9_180, ok10_142, ok10_143, ok10_144, ok10_145, ok10_146, ok10_147, ok10_148, ok10_149, ok10_150, ok10_151, ok11_142, ok11_143, ok11_144, ok11_145, ok11_146, ok11_147, ok11_148, ok11_149, ok11_152, ok11_153, ok11_154, ok11_155, ok11_156, ok11_157, ok13_158, ok13_159, ok13_160, ok13_161, ok13_162, ok13_163, ok13_164, ok13_165, ok13_166, ok13_167, ok13_168, ok13_169, ok13_170, ok16_138, ok16_139, ok16_140, ct_a, ct_a5, ct_b, ct_c, ct_d, ct_r50, ct_r51, ct_r52, ct_r53, ct_r54, xs_T, xsR_5, xsT_4, xsL_4, xsR_6, xsT_5, xsL_5, xsR_7, xsT_6, xsL_6, xsR_8, xsT_7, xsL_7, xsR_9, xsT_8, xsL_8, xsR_10, xsT_9, xsL_9, xsR_14, xsT_10, xsL_10, xsR_17, xsT_11, xsL_11, xsR_18, xsT_12, xsL_12, xsR_24, xsT_13, xsL_13, xsR_25, xsT_14, xsL_14, xsR_26, xsT_24, xsL_24, xsR_28, xsT_106, xsL_106, xsR_34, xsT_107, xsL_107, xsR_41, xsT_108, xsL_108, xsR_42, xsT_109, xsL_109, xsR_43, xsT_110, xsL_110, xsR_44, xsT_111, xsL_111, xsR_46, xsT_112, xsL_112, xsR_52, xsT_121, xsL_121, xsR_53, xsT_122, xsL_122, xsR_54, xsT_131, xsL_131, hH, hf]
      by_cases q1 : s 23 k = 0
      · exact hbad 20 1 50 _ _ (t1 q1) rfl (cpN_null (Or.inl rfl)) (by decide) (by decide) (by unfold fCopy; rw [ix_ok (by omega), ix_ok (by omega), if_pos (Or.inl q1)]) (by decide) h50
      · by_cases q2 : s 23 o = 0
        · exact hbad 20 1 50 _ _ rfl (t3 q2) (cpN_null (Or.inr rfl)) (by decide) (by decide) (by unfold fCopy; rw [ix_ok (by omega), ix_ok (by omega), if_pos (Or.inr q2)]) (by decide) h50
        · have hq12 : ¬ (s 23 k = 0 ∨ s 23 o = 0) := by omega
          obtain ⟨a, a1, a2, a3, a4, a5, a6, a7, a8⟩ := t2 (by omega)
          obtain ⟨b, b1, b2, b3, b4, b5, b6, b7, b8⟩ := t4 (by omega)
          rw [flt_at (by decide)] at a4 a8 b4 b8
          by_cases q3 : s 24 k = s 24 o
          · rw [← q3] at b4 b8
            have hz1 : hL K a = s 23 k - 1 := by omega
            have hz2 : hL K b = s 23 o - 1 := by omega
            cases c1 : (beyond i n.toInt (s 23 k - 1 : Nat) || beyond j n.toInt (s 23 o - 1 : Nat)) with
            | true => exact hbad 22 3 66 _ _ a1 b1 (cp_out a4 b4 (by rw [hz1, hz2]; exact c1)) (by decide) (by decide) (by unfold fCopy; rw [ix_ok (by omega), ix_ok (by omega), if_neg hq12, if_neg (fun q => q q3), if_pos c1]) (by decide) h66
            | false =>
              have hf : fCopy s (nI k) i (nI o) j n = 0 := by unfold fCopy; rw [ix_ok (by omega), ix_ok (by omega), if_neg hq12, if_neg (fun q => q q3), if_neg (by rw [c1]; decide)]
              rw [Bool.or_eq_false_iff] at c1
              obtain ⟨I, N, rfl, rfl, hIN⟩ := nb_of (by omega) c1.1
              obtain ⟨J, N', rfl, hN', hJN⟩ := nb_of (by omega) c1.2
              have hNN : N = N' := by
                have := congrArg Int32.toInt hN'
                rw [nI_toInt (by omega), nI_toInt (by omega)] at this
                omega
              subst hNN
              have hans : aCopy s (nI k) (nI I) (nI o) (nI J) (nI N) = nI N := by
                unfold aCopy
                rw [hx, hy, hf]
                rfl
              have hst : sCopyS s (nI k) (nI I) (nI o) (nI J) (nI N) = flt s 0 := by
                unfold sCopyS
                rw [hx, hy, hf]
                rfl
              have hhh : hCopy s h (nI k) (nI I) (nI o) (nI J) (nI N) = fun k' z => if k' = o ∧ J ≤ z ∧ z < J + N then h k (I + (z - J)) else h k' z := by
                unfold hCopy
                rw [hx, hy, hf, ix_ok (by omega), ix_ok (by omega), ix_ok (by omega), ix_ok (by omega), ix_ok (by omega)]
                simp only [Bool.and_self, true_and, if_true]
              rw [hans, hst, hhh]
              have hcp := fun Lc => rX0_copy_44s (d := d) (G := K) (a := a) (i := I) (b := b) (j := J) (n := N) (Lc := Lc) (show s 24 k < 4 by omega) a4 b4 (by omega) (by omega) (by omega) (by omega) (fun z hz => by rw [a8 _ (by omega)]; exact hFt k hk _ (by omega))
              refine ⟨cpL (s 24 k) K a I b J N, ?_, (hF0.trans (cpL_ly.fq b2)).fx (by omega) (by omega), CI.ly (hSI.flt (v := 0) (by omega)) hI0 ho (by rw [flt_at (by decide)]; omega) b1 (cpL_ly (L := s 24 k) (n := N) (a := a) (sp := I) (dp := J)) (fun z hz => ?_) (fun z hz => ?_)⟩
              · simp (disch := omega) only [rX0_copy_5, rX0_copy_6, rX0_copy_9, rX0_copy_12, rX0_copy_13, rX0_copy_16, rX0_copy_19, rX0_copy_20, rX0_copy_21, rX0_copy_22, rX0_copy_25, rX0_copy_26, rX0_copy_27, rX0_copy_30, rX0_copy_31, rX0_copy_32, rX0_copy_35, rX0_copy_36, rX0_copy_37, rX0_copy_40, rX0_copy_42, rX0_copy_47, rX0_copy_49, psh_some, psh_none, bnd_r1, bnd_r0, b01_0, b01_1, lg_lt, lg_eq, lg_gt, lg_ge, lg_le, reduceIte, Bool.false_eq_true, and_true, true_and, and_false, false_and, not_true_eq_false, not_false_eq_true, eq_self, nI_add, nI_mul, nI_div, nI_irm, nI_subk, inb_ok, ix_ok, nI_lt_t, nI_lt_f, nI_le_t, nI_le_f, nI_eq_t, nI_eq_f, nI_z, ifb, ifbn, b01_bI, b01_n, Nat.reduceEqDiff, nl_l, nl_n, nl_i, nl_r, Bool.true_eq_false, reduceIte, if_true, if_false, ok0_0, ok0_1, ok0_2, ok0_3, ok0_4, ok0_5, ok0_6, ok0_7, ok0_8, ok0_9, ok0_10, ok0_11, ok0_12, ok0_13, ok0_14, ok0_15, ok0_16, ok0_17, ok0_18, ok0_19, ok0_20, ok0_21, ok0_22, ok0_23, ok0_24, ok0_25, ok0_26, ok0_27, ok0_28, ok0_29, ok0_30, ok0_31, ok0_32, ok0_33, ok0_34, ok0_35, ok0_36, ok0_37, ok0_38, ok0_39, ok0_40, ok0_41, ok0_42, ok0_43, ok0_44, ok0_45, ok0_46, ok0_47, ok0_48, ok0_49, ok0_50, ok0_51, ok0_52, ok0_53, ok0_54, ok1_141, ok2_55, ok2_56, ok2_57, ok2_58, ok2_59, ok2_60, ok2_61, ok2_62, ok2_63, ok2_64, ok2_65, ok2_66, ok2_67, ok2_68, ok2_69, ok2_70, ok2_71, ok2_72, ok2_73, ok2_74, ok2_75, ok2_76, ok2_77, ok2_78, ok2_79, ok2_80, ok2_81, ok2_82, ok2_83, ok2_84, ok2_85, ok2_86, ok2_87, ok2_88, ok2_89, ok2_90, ok2_91, ok2_92, ok2_93, ok2_94, ok2_95, ok2_96, ok2_97, ok2_98, ok2_99, ok2_100, ok2_101, ok2_102, ok2_103, ok2_104, ok2_105, ok2_106, ok2_107, ok2_108, ok2_109, ok2_110, ok2_111, ok2_112, ok2_113, ok2_114, ok2_115, ok2_116, ok2_117, ok2_118, ok2_119, ok2_120, ok2_121, ok2_122, ok2_123, ok2_124, ok2_125, ok2_126, ok2_127, ok2_128, ok2_129, ok2_130, ok2_131, ok2_132, ok2_133, ok2_134, ok2_135, ok2_136, ok2_137, ok3_171, ok3_172, ok3_173, ok3_174, ok3_175, ok3_176, ok4_171, ok4_172, ok4_173, ok4_174, ok4_175, ok4_176, ok4_177, ok4_178, ok5_171, ok5_172, ok5_173, ok5_174, ok5_175, ok5_176, ok5_177, ok5_178, ok5_179, ok7_142, ok7_143, ok7_144, ok7_145, ok7_146, ok7_147, ok7_148, ok7_149, ok7_152, ok7_153, ok7_154, ok8_142, ok8_143, ok8_144, ok8_145, ok8_146, ok8_147, ok8_148, ok8_149, ok8_152, ok8_153, ok8_154, ok8_155, ok9_142, ok9_143, ok9_144, ok9_145, ok9_146, ok9_147, ok9_148, ok9_149, ok9_152, ok9_153, ok9_154, ok9_155, ok9_180, ok10_142, ok10_143, ok10_144, ok10_145, ok10_146, ok10_147, ok10_148, ok10_149, ok10_150, ok10_151, ok11_142, ok11_143, ok11_144, ok11_145, ok11_146, ok11_147, ok11_148, ok11_149, ok11_152, ok11_153, ok11_154, ok11_155, ok11_156, ok11_157, ok13_158, ok13_159, ok13_160, ok13_161, ok13_162, ok13_163, ok13_164, ok13_165, ok13_166, ok13_167, ok13_168, ok13_169, ok13_170, ok16_138, ok16_139, ok16_140, ct_a, ct_a5, ct_b, ct_c, ct_d, ct_r50, ct_r51, ct_r52, ct_r53, ct_r54, xs_T, xsR_5, xsT_4, xsL_4, xsR_6, xsT_5, xsL_5, xsR_7, xsT_6, xsL_6, xsR_8, xsT_7, xsL_7, xsR_9, xsT_8, xsL_8, xsR_10, xsT_9, xsL_9, xsR_14, xsT_10, xsL_10, xsR_17, xsT_11, xsL_11, xsR_18, xsT_12, xsL_12, xsR_24, xsT_13, xsL_13, xsR_25, xsT_14, xsL_14, xsR_26, xsT_24, xsL_24, xsR_28, xsT_106, xsL_106, xsR_34, xsT_107, xsL_107, xsR_41, xsT_108, xsL_108, xsR_42, xsT_109, xsL_109, xsR_43, xsT_110, xsL_110, xsR_44, xsT_111, xsL_111, xsR_46, xsT_112, xsL_112, xsR_52, xsT_121, xsL_121, xsR_53, xsT_122, xsL_122, xsR_54, xsT_131, xsL_131, hXs, hh, hh2, r1, r2, r3, v1, v2, v3, a1, b1, hcp]
              · rw [flt_at (by decide)] at hz
                rw [flt_at (by decide), ← q3, cpL_v]
                by_cases e : J ≤ z ∧ z < J + N
                · rw [if_pos e, if_pos ⟨rfl, e⟩, a8 _ (by omega)]
                · rw [if_neg e, if_neg (fun q => e q.2), b8 _ hz]
              · funext z'
                rw [if_neg (fun q => hz q.1)]
          · exact hbad 24 2 58 _ _ a1 b1 (cp_kind a4 b4 (by omega) (by omega) q3) (by decide) (by decide) (by unfold fCopy; rw [ix_ok (by omega), ix_ok (by omega), if_neg hq12, if_pos q3]) (by decide) h58
    · rw [hy] at hh2
      rw [hx] at hh
      obtain ⟨G', e1, e2⟩ := hout (by rw [hy, Bool.and_false])
      refine ⟨G', ?_, e2⟩
      rw [← e1]
      simp (disch := omega) only [rX0_copy_5, rX0_copy_6, rX0_copy_9, rX0_copy_12, rX0_copy_13, rX0_copy_16, rX0_copy_19, rX0_copy_20, psh_some, psh_none, bnd_r1, bnd_r0, b01_0, b01_1, lg_lt, lg_eq, lg_gt, lg_ge, lg_le, reduceIte, Bool.false_eq_true, and_true, true_and, and_false, false_and, not_true_eq_false, not_false_eq_true, eq_self, nI_add, nI_mul, nI_div, nI_irm, nI_subk, inb_ok, ix_ok, nI_lt_t, nI_lt_f, nI_le_t, nI_le_f, nI_eq_t, nI_eq_f, nI_z, ifb, ifbn, b01_bI, b01_n, Nat.reduceEqDiff, nl_l, nl_n, nl_i, nl_r, Bool.true_eq_false, reduceIte, if_true, if_false, ok0_0, ok0_1, ok0_2, ok0_3, ok0_4, ok0_5, ok0_6, ok0_7, ok0_8, ok0_9, ok0_10, ok0_11, ok0_12, ok0_13, ok0_14, ok0_15, ok0_16, ok0_17, ok0_18, ok0_19, ok0_20, ok0_21, ok0_22, ok0_23, ok0_24, ok0_25, ok0_26, ok0_27, ok0_28, ok0_29, ok0_30, ok0_31, ok0_32, ok0_33, ok0_34, ok0_35, ok0_36, ok0_37, ok0_38, ok0_39, ok0_40, ok0_41, ok0_42, ok0_43, ok0_44, ok0_45, ok0_46, ok0_47, ok0_48, ok0_49, ok0_50, ok0_51, ok0_52, ok0_53, ok0_54, ok1_141, ok2_55, ok2_56, ok2_57, ok2_58, ok2_59, ok2_60, ok2_61, ok2_62, ok2_63, ok2_64, ok2_65, ok2_66, ok2_67, ok2_68, ok2_69, ok2_70, ok2_71, ok2_72, ok2_73, ok2_74, ok2_75, ok2_76, ok2_77, ok2_78, ok2_79, ok2_80, ok2_81, ok2_82, ok2_83, ok2_84, ok2_85, ok2_86, ok2_87, ok2_88, ok2_89, ok2_90, ok2_91, ok2_92, ok2_93, ok2_94, ok2_95, ok2_96, ok2_97, ok2_98, ok2_99, ok2_100, ok2_101, ok2_102, ok2_103, ok2_104, ok2_105, ok2_106, ok2_107, ok2_108, ok2_109, ok2_110, ok2_111, ok2_112, ok2_113, ok2_114, ok2_115, ok2_116, ok2_117, ok2_118, ok2_119, ok2_120, ok2_121, ok2_122, ok2_123, ok2_124, ok2_125, ok2_126, ok2_127, ok2_128, ok2_129, ok2_130, ok2_131, ok2_132, ok2_133, ok2_134, ok2_135, ok2_136, ok2_137, ok3_171, ok3_172, ok3_173, ok3_174, ok3_175, ok3_176, ok4_171, ok4_172, ok4_173, ok4_174, ok4_175, ok4_176, ok4_177, ok4_178, ok5_171, ok5_172, ok5_173, ok5_174, ok5_175, ok5_176, ok5_177, ok5_178, ok5_179, ok7_142, ok7_143, ok7_144, ok7_145, ok7_146, ok7_147, ok7_148, ok7_149, ok7_152, ok7_153, ok7_154, ok8_142, ok8_143, ok8_144, ok8_145, ok8_146, ok8_147, ok8_148, ok8_149, ok8_152, ok8_153, ok8_154, ok8_155, ok9_142, ok9_143, ok9_144, ok9_145, ok9_146, ok9_147, ok9_148, ok9_149, ok9_152, ok9_153, ok9_154, ok9_155, ok9_180, ok10_142, ok10_143, ok10_144, ok10_145, ok10_146, ok10_147, ok10_148, ok10_149, ok10_150, ok10_151, ok11_142, ok11_143, ok11_144, ok11_145, ok11_146, ok11_147, ok11_148, ok11_149, ok11_152, ok11_153, ok11_154, ok11_155, ok11_156, ok11_157, ok13_158, ok13_159, ok13_160, ok13_161, ok13_162, ok13_163, ok13_164, ok13_165, ok13_166, ok13_167, ok13_168, ok13_169, ok13_170, ok16_138, ok16_139, ok16_140, ct_a, ct_a5, ct_b, ct_c, ct_d, ct_r50, ct_r51, ct_r52, ct_r53, ct_r54, xs_T, xsR_5, xsT_4, xsL_4, xsR_6, xsT_5, xsL_5, xsR_7, xsT_6, xsL_6, xsR_8, xsT_7, xsL_7, xsR_9, xsT_8, xsL_8, xsR_10, xsT_9, xsL_9, xsR_14, xsT_10, xsL_10, xsR_17, xsT_11, xsL_11, xsR_18, xsT_12, xsL_12, xsR_24, xsT_13, xsL_13, xsR_25, xsT_14, xsL_14, xsR_26, xsT_24, xsL_24, xsR_28, xsT_106, xsL_106, xsR_34, xsT_107, xsL_107, xsR_41, xsT_108, xsL_108, xsR_42, xsT_109, xsL_109, xsR_43, xsT_110, xsL_110, xsR_44, xsT_111, xsL_111, xsR_46, xsT_112, xsL_112, xsR_52, xsT_121, xsL_121, xsR_53, xsT_122, xsL_122, xsR_54, xsT_131, xsL_131, hXs, hh, hh2]
  · rw [hx] at hh
    obtain ⟨G', e1, e2⟩ := hout (by rw [hx, Bool.false_and])
    refine ⟨G', ?_, e2⟩
    rw [← e1]
    simp (disch := omega) only [rX0_copy_5, rX0_copy_6, rX0_copy_9, rX0_copy_12, rX0_copy_13, rX0_copy_16, rX0_copy_19, rX0_copy_20, psh_some, psh_none, bnd_r1, bnd_r0, b01_0, b01_1, lg_lt, lg_eq, lg_gt, lg_ge, lg_le, reduceIte, Bool.false_eq_true, and_true, true_and, and_false, false_and, not_true_eq_false, not_false_eq_true, eq_self, nI_add, nI_mul, nI_div, nI_irm, nI_subk, inb_ok, ix_ok, nI_lt_t, nI_lt_f, nI_le_t, nI_le_f, nI_eq_t, nI_eq_f, nI_z, ifb, ifbn, b01_bI, b01_n, Nat.reduceEqDiff, nl_l, nl_n, nl_i, nl_r, Bool.true_eq_false, reduceIte, if_true, if_false, ok0_0, ok0_1, ok0_2, ok0_3, ok0_4, ok0_5, ok0_6, ok0_7, ok0_8, ok0_9, ok0_10, ok0_11, ok0_12, ok0_13, ok0_14, ok0_15, ok0_16, ok0_17, ok0_18, ok0_19, ok0_20, ok0_21, ok0_22, ok0_23, ok0_24, ok0_25, ok0_26, ok0_27, ok0_28, ok0_29, ok0_30, ok0_31, ok0_32, ok0_33, ok0_34, ok0_35, ok0_36, ok0_37, ok0_38, ok0_39, ok0_40, ok0_41, ok0_42, ok0_43, ok0_44, ok0_45, ok0_46, ok0_47, ok0_48, ok0_49, ok0_50, ok0_51, ok0_52, ok0_53, ok0_54, ok1_141, ok2_55, ok2_56, ok2_57, ok2_58, ok2_59, ok2_60, ok2_61, ok2_62, ok2_63, ok2_64, ok2_65, ok2_66, ok2_67, ok2_68, ok2_69, ok2_70, ok2_71, ok2_72, ok2_73, ok2_74, ok2_75, ok2_76, ok2_77, ok2_78, ok2_79, ok2_80, ok2_81, ok2_82, ok2_83, ok2_84, ok2_85, ok2_86, ok2_87, ok2_88, ok2_89, ok2_90, ok2_91, ok2_92, ok2_93, ok2_94, ok2_95, ok2_96, ok2_97, ok2_98, ok2_99, ok2_100, ok2_101, ok2_102, ok2_103, ok2_104, ok2_105, ok2_106, ok2_107, ok2_108, ok2_109, ok2_110, ok2_111, ok2_112, ok2_113, ok2_114, ok2_115, ok2_116, ok2_117, ok2_118, ok2_119, ok2_120, ok2_121, ok2_122, ok2_123, ok2_124, ok2_125, ok2_126, ok2_127, ok2_128, ok2_129, ok2_130, ok2_131, ok2_132, ok2_133, ok2_134, ok2_135, ok2_136, ok2_137, ok3_171, ok3_172, ok3_173, ok3_174, ok3_175, ok3_176, ok4_171, ok4_172, ok4_173, ok4_174, ok4_175, ok4_176, ok4_177, ok4_178, ok5_171, ok5_172, ok5_173, ok5_174, ok5_175, ok5_176, ok5_177, ok5_178, ok5_179, ok7_142, ok7_143, ok7_144, ok7_145, ok7_146, ok7_147, ok7_148, ok7_149, ok7_152, ok7_153, ok7_154, ok8_142, ok8_143, ok8_144, ok8_145, ok8_146, ok8_147, ok8_148, ok8_149, ok8_152, ok8_153, ok8_154, ok8_155, ok9_142, ok9_143, ok9_144, ok9_145, ok9_146, ok9_147, ok9_148, ok9_149, ok9_152, ok9_153, ok9_154, ok9_155, ok9_180, ok10_142, ok10_143, ok10_144, ok10_145, ok10_146, ok10_147, ok10_148, ok10_149, ok10_150, ok10_151, ok11_142, ok11_143, ok11_144, ok11_145, ok11_146, ok11_147, ok11_148, ok11_149, ok11_152, ok11_153, ok11_154, ok11_155, ok11_156, ok11_157, ok13_158, ok13_159, ok13_160, ok13_161, ok13_162, ok13_163, ok13_164, ok13_165, ok13_166, ok13_167, ok13_168, ok13_169, ok13_170, ok16_138, ok16_139, ok16_140, ct_a, ct_a5, ct_b, ct_c, ct_d, ct_r50, ct_r51, ct_r52, ct_r53, ct_r54, xs_T, xsR_5, xsT_4, xsL_4, xsR_6, xsT_5, xsL_5, xsR_7, xsT_6, xsL_6, xsR_8, xsT_7, xsL_7, xsR_9, xsT_8, xsL_8, xsR_10, xsT_9, xsL_9, xsR_14, xsT_10, xsL_10, xsR_17, xsT_11, xsL_11, xsR_18, xsT_12, xsL_12, xsR_24, xsT_13, xsL_13, xsR_25, xsT_14, xsL_14, xsR_26, xsT_24, xsL_24, xsR_28, xsT_106, xsL_106, xsR_34, xsT_107, xsL_107, xsR_41, xsT_108, xsL_108, xsR_42, xsT_109, xsL_109, xsR_43, xsT_110, xsL_110, xsR_44, xsT_111, xsL_111, xsR_46, xsT_112, xsL_112, xsR_52, xsT_121, xsL_121, xsR_53, xsT_122, xsL_122, xsR_54, xsT_131, xsL_131, hXs, hh]
end
