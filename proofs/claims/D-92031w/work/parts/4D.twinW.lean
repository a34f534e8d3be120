/-! one of the ways, in the reference -/
def wnS (p : Nat → Bool) (f : Nat → Nat) : Nat → Nat
  | 0 => 0
  | e + 1 => wnS p f e + (if p e = true then f e else 0)
noncomputable def wn (s : SGT) (m : Nat) : Nat → Nat → Nat
  | 0, c => if nar s (onU s) (s 15 m + (s 16 m - 1)) c = true then 1 else 0
  | k + 1, c => if nar s (onU s) (s 15 m + (s 16 m - 1 - (k + 1))) c = true then wnS (fun e => decide (fr c e ≤ s 17 m)) (wn s m k) 64 else 0
/-- the cell that a number leads to, and what is left of it -/
def fnd (p : Nat → Bool) (f : Nat → Nat) : Nat → Nat → Nat → Nat × Nat
  | 0, c, r => (c, r)
  | m + 1, c, r => if r < (if p c = true then f c else 0) then (c, r) else fnd p f m (c + 1) (r - (if p c = true then f c else 0))
noncomputable def wayP (s : SGT) (m n : Nat) : Nat → Nat × Nat
  | 0 => fnd (fun _ => true) (wn s m (s 16 m - 1)) 64 0 n
  | k + 1 => fnd (fun c => decide (fr (wayP s m n k).1 c ≤ s 17 m)) (wn s m (s 16 m - 1 - (k + 1))) 64 0 (wayP s m n k).2
theorem wnS_le {p : Nat → Bool} {f : Nat → Nat} {B : Nat} (h : ∀ e, f e ≤ B) : ∀ n, wnS p f n ≤ n * B
  | 0 => Nat.zero_le _
  | n + 1 => by
    have := wnS_le (p := p) h n
    have h2 := h n
    rw [Nat.add_mul]
    unfold wnS
    split <;> omega
theorem wn_le {s : SGT} {m : Nat} : ∀ k c, wn s m k c ≤ 64 ^ k
  | 0, c => by unfold wn; split <;> simp
  | k + 1, c => by
    have := wnS_le (p := fun e => decide (fr c e ≤ s 17 m)) (fun e => wn_le (s := s) (m := m) k e) 64
    unfold wn
    rw [Nat.pow_succ]
    split <;> omega
theorem p64 : ∀ k, k ≤ 7 → 64 * 64 ^ k ≤ 281474976710656 := by decide
theorem wnS_mono {p : Nat → Bool} {f : Nat → Nat} {a : Nat} : ∀ b, a ≤ b → wnS p f a ≤ wnS p f b
  | 0, h => by rw [show a = 0 by omega]; exact Nat.le_refl _
  | b + 1, h => by
    by_cases e : a = b + 1
    · rw [e]; exact Nat.le_refl _
    · have := wnS_mono (p := p) (f := f) (a := a) b (by omega)
      show _ ≤ wnS p f b + _
      omega
theorem wyS_wn {p : Nat → Bool} {f : Nat → Int64} {g : Nat → Nat} (h : ∀ e, e < 64 → (f e).toInt = g e) (hb : wnS p g 64 ≤ 281474976710656) : ∀ n, n ≤ 64 → (wyS p f n).toInt = wnS p g n
  | 0, _ => rfl
  | n + 1, hn => by
    have h1 := wyS_wn h hb n (by omega)
    have h2 := wnS_mono (p := p) (f := g) (a := n + 1) 64 hn
    have h3 := h n (by omega)
    unfold wyS
    have h4 : wnS p g (n + 1) = wnS p g n + (if p n = true then g n else 0) := rfl
    rw [h4] at h2 ⊢
    by_cases q : p n = true
    · rw [if_pos q] at h2 ⊢
      rw [if_pos q, toInt_ladd (by omega) (by omega), h1, h3]
      omega
    · rw [if_neg q] at h2 ⊢
      rw [if_neg q, toInt_ladd (by rw [show (0 : Int64).toInt = 0 from rfl]; omega) (by rw [show (0 : Int64).toInt = 0 from rfl]; omega), h1, show (0 : Int64).toInt = 0 from rfl]
      omega
theorem wnS_wn {s : SGT} {m k : Nat} {p : Nat → Bool} (hk : k ≤ 7) : wnS p (wn s m k) 64 ≤ 281474976710656 := Nat.le_trans (wnS_le (fun e => wn_le k e) 64) (p64 k hk)
theorem wy_wn {s : SGT} {m : Nat} : ∀ k, k ≤ 7 → ∀ c, (wy s m k c).toInt = wn s m k c
  | 0, _, c => by unfold wy wn; split <;> rfl
  | k + 1, hk, c => by
    have h1 := wyS_wn (p := fun e => decide (fr c e ≤ s 17 m)) (fun e _ => wy_wn (s := s) (m := m) k (by omega) e) (wnS_wn (by omega)) 64 (Nat.le_refl _)
    unfold wy wn
    split
    · exact h1
    · rfl
noncomputable def wnAll (s : SGT) (m : Nat) : Nat := wnS (fun _ => true) (wn s m (s 16 m - 1)) 64
theorem wyAll_wn {s : SGT} {m : Nat} (h : s 16 m ≤ 8) : (wyAll s m).toInt = wnAll s m := wyS_wn (fun e _ => wy_wn _ (by omega) e) (wnS_wn (by omega)) 64 (Nat.le_refl _)
theorem fnd_s {p : Nat → Bool} {f : Nat → Nat} {m c r : Nat} : fnd p f (m + 1) c r = if r < (if p c = true then f c else 0) then (c, r) else fnd p f m (c + 1) (r - (if p c = true then f c else 0)) := rfl
theorem fnd_ok {p : Nat → Bool} {f : Nat → Nat} : ∀ m c r, r + wnS p f c < wnS p f (c + m) → (fnd p f m c r).1 < c + m ∧ p (fnd p f m c r).1 = true ∧ (fnd p f m c r).2 < f (fnd p f m c r).1
  | 0, c, r, h => by rw [Nat.add_zero] at h; omega
  | m + 1, c, r, h => by
    rw [fnd_s]
    by_cases q : r < (if p c = true then f c else 0)
    · rw [if_pos q]
      by_cases e : p c = true
      · rw [if_pos e] at q
        exact ⟨by show c < _; omega, e, q⟩
      · rw [if_neg e] at q; omega
    · rw [if_neg q]
      have h4 : wnS p f (c + 1) = wnS p f c + (if p c = true then f c else 0) := rfl
      have := fnd_ok (p := p) (f := f) m (c + 1) (r - (if p c = true then f c else 0)) (by rw [h4, show c + 1 + m = c + (m + 1) by omega]; omega)
      rw [show c + 1 + m = c + (m + 1) by omega] at this
      exact this
theorem wayP_ok {s : SGT} {m n : Nat} (hn : n < wnAll s m) : ∀ k, k < s 16 m → (wayP s m n k).1 < 64 ∧ (wayP s m n k).2 < wn s m (s 16 m - 1 - k) (wayP s m n k).1
  | 0, _ => by
    have := fnd_ok (p := fun _ => true) (f := wn s m (s 16 m - 1)) 64 0 n (by rw [Nat.zero_add]; exact hn)
    exact ⟨by have := this.1; unfold wayP; omega, this.2.2⟩
  | k + 1, hk => by
    obtain ⟨i1, i2⟩ := wayP_ok hn k (by omega)
    obtain ⟨K, hK⟩ : ∃ K, s 16 m - 1 - k = K + 1 := ⟨s 16 m - 1 - k - 1, by omega⟩
    have hK2 : s 16 m - 1 - (k + 1) = K := by omega
    rw [hK] at i2
    have h3 : (wayP s m n k).2 < wnS (fun c => decide (fr (wayP s m n k).1 c ≤ s 17 m)) (wn s m K) 64 := by
      unfold wn at i2
      split at i2
      · exact i2
      · omega
    have := fnd_ok (p := fun c => decide (fr (wayP s m n k).1 c ≤ s 17 m)) (f := wn s m K) 64 0 (wayP s m n k).2 (by rw [Nat.zero_add]; exact h3)
    rw [hK2]
    unfold wayP
    rw [hK2]
    exact ⟨by have := this.1; omega, this.2.2⟩
def okW (s : SGT) (x : Int32) (n : Int64) (y : Int32) (a : Int) : Bool := (inR x (s 26 0) && inR y (s 16 (ix x))) && decide (0 ≤ n.toInt ∧ n.toInt < a)
noncomputable def aWay (s : SGT) (x : Int32) (n : Int64) (y : Int32) : Int32 := if okW s x n y (wnAll s (ix x)) = true then nI (wayP s (ix x) n.toInt.toNat (ix y)).1 else -1
theorem jlt {a b : Int64} {x y : Nat} (h : a.toInt = x) (k : b.toInt = y) : (a < b) = (x < y) := propext ⟨fun q => by have := Int64.lt_iff_toInt_lt.mp q; omega, fun q => Int64.lt_iff_toInt_lt.mpr (by omega)⟩
theorem jle {a b : Int64} {x y : Nat} (h : a.toInt = x) (k : b.toInt = y) : (a ≤ b) = (x ≤ y) := propext ⟨fun q => by have := Int64.le_iff_toInt_le.mp q; omega, fun q => Int64.le_iff_toInt_le.mpr (by omega)⟩
theorem jsub {a b : Int64} {x y : Nat} (h : a.toInt = x) (k : b.toInt = y) (hx : y ≤ x) : (a - b).toInt = (x - y : Nat) := by
  have h1 := Int64.toInt_lt a
  rw [Int64.toInt_sub, h, k]
  rw [Int.bmod_eq_of_le (by omega) (by omega)]
  omega
section
variable {d : Nat} {G : AH} {s : SGT} {h : Nat → Nat → Int64} {w : Int32}
set_option maxHeartbeats 4000000 in
/-- the search for one cell -/
theorem m_wayC {m k r0 : Nat} {x y lv : Int32} {n v0 : Int64} {l11 l9 l10 : Option AV} {p : Nat → Bool} {Q : Option (AO × AH) → Prop} (hx : x = nI m) (hm : m < s 26 0) (hk : k < s 16 m) (hv : v0.toInt = r0) (hlt : r0 < wnS p (wn s m (s 16 m - 1 - k)) 64) (hlv : (lv = -1 ∧ p = fun _ => true) ∨ ∃ e, e < 64 ∧ lv = nI e ∧ p = fun c => decide (fr e c ≤ s 17 m)) (hW : WayR s m G) (hM : MS G) (hR : TR s G) (hS : SB s) (hd : 1 ≤ d)
    (hnext : ∀ (v : Int64) (l11 : Option AV), v.toInt = (fnd p (wn s m (s 16 m - 1 - k)) 64 0 r0).2 → Q (At d 241 143 [some (vr (some 136)), some (vi x), some (vl n), none, some (vi y), some (vl v), none, some (vi lv), some (vi (nI k)), some (vi (nI (fnd p (wn s m (s 16 m - 1 - k)) 64 0 r0).1)), some (vi (nI 1)), l11, none] [] G)) : Q (At d 241 43 [some (vr (some 136)), some (vi x), some (vl n), none, some (vi y), some (vl v0), none, some (vi lv), some (vi (nI k)), l9, l10, l11, none] [] G) := by
  subst hx
  have hmv := hS.2.2.2.2.2.2 m hm
  have h0 := hS.1
  have hrm : hI G 153 m = nI (s 17 m) := tr_reach hR (by omega)
  simp (disch := omega) only [rX2_way_43, rX2_way_44, rX2_way_46, rX2_way_47, psh_some, psh_none, bnd_r1, bnd_r0, b01_0, b01_1, lg_lt, lg_eq, lg_gt, lg_ge, lg_le, reduceIte, Bool.false_eq_true, and_true, true_and, and_false, false_and, not_true_eq_false, not_false_eq_true, eq_self, nI_add, nI_mul, nI_div, nI_irm, nI_subk, inb_ok, ix_ok, nI_lt_t, nI_lt_f, nI_le_t, nI_le_f, nI_eq_t, nI_eq_f, nI_z, ifb, ifbn, b01_bI, b01_n, Nat.reduceEqDiff, nl_l, nl_n, nl_i, nl_r, Bool.true_eq_false, reduceIte, if_true, if_false]
  refine lpQ (P := fun c (q : Int64 × Option AV) => At d 241 49 [some (vr (some 136)), some (vi (nI m)), some (vl n), none, some (vi y), some (vl q.1), none, some (vi lv), some (vi (nI k)), some (vi (nI c)), some (vi (nI 0)), q.2, none] [] G) (Q := Q) (fun c q => ∃ r : Nat, q.1.toInt = r ∧ r + wnS p (wn s m (s 16 m - 1 - k)) c < wnS p (wn s m (s 16 m - 1 - k)) 64 ∧ fnd p (wn s m (s 16 m - 1 - k)) (64 - c) c r = fnd p (wn s m (s 16 m - 1 - k)) 64 0 r0) 64 ?_ ?_ (Nat.zero_le _) (s := (v0, l11)) ⟨r0, hv, hlt, rfl⟩
  · rintro c ⟨v, l11⟩ hc ⟨r, h1, h2, h3⟩ ih
    dsimp only at h1 h2 h3 ih ⊢
    have hrow : hJ G 171 (64 * k + c) = wy s m (s 16 m - 1 - k) c := by
      have := hW (s 16 m - 1 - k) (by omega) c hc
      rw [show s 16 m - 1 - (s 16 m - 1 - k) = k by omega] at this
      exact this
    have hwy := wy_wn (s := s) (m := m) (s 16 m - 1 - k) (by omega) c
    obtain ⟨j, hj⟩ : ∃ j, 64 - c = j + 1 := ⟨64 - c - 1, by omega⟩
    have hj2 : 64 - (c + 1) = j := by omega
    rw [hj] at h3
    rw [fnd_s] at h3
    rw [hj2] at ih
    have h4 : wnS p (wn s m (s 16 m - 1 - k)) (c + 1) = wnS p (wn s m (s 16 m - 1 - k)) c + (if p c = true then wn s m (s 16 m - 1 - k) c else 0) := rfl
    -- behind the number of ways here
    have hgo : ∀ (u : Int64), u.toInt = ((if p c = true then wn s m (s 16 m - 1 - k) c else 0 : Nat) : Int) → Q (At d 241 92 [some (vr (some 136)), some (vi (nI m)), some (vl n), none, some (vi y), some (vl v), none, some (vi lv), some (vi (nI k)), some (vi (nI c)), some (vi (nI 0)), l11, none] [vl u] G) := by
      intro u hu
      generalize (if p c = true then wn s m (s 16 m - 1 - k) c else 0) = z at hu h3 h4
      have e1 := jlt h1 hu
      have e2 := jle hu h1
      by_cases q : r < z
      · rw [if_pos q] at h3
        rw [eq_true q] at e1
        rw [eq_false (show ¬ z ≤ r by omega)] at e2
        rw [← h3] at hnext
        simp (disch := omega) only [rX2_way_92, rX2_way_94, rX2_way_96, rX2_way_98, rX2_way_99, rX2_way_102, rX2_way_103, rX2_way_106, rX2_way_107, rX2_way_109, rX2_way_111, rX2_way_113, rX2_way_116, rX2_way_117, rX2_way_120, rX2_way_122, rX2_way_123, rX2_way_125, rX2_way_127, rX2_way_129, rX2_way_132, rX2_way_133, rX2_way_136, rX2_way_137, rX2_way_138, rX2_way_140, psh_some, psh_none, bnd_r1, bnd_r0, b01_0, b01_1, lg_lt, lg_eq, lg_gt, lg_ge, lg_le, reduceIte, Bool.false_eq_true, and_true, true_and, and_false, false_and, not_true_eq_false, not_false_eq_true, eq_self, nI_add, nI_mul, nI_div, nI_irm, nI_subk, inb_ok, ix_ok, nI_lt_t, nI_lt_f, nI_le_t, nI_le_f, nI_eq_t, nI_eq_f, nI_z, ifb, ifbn, b01_bI, b01_n, Nat.reduceEqDiff, nl_l, nl_n, nl_i, nl_r, Bool.true_eq_false, reduceIte, if_true, if_false, e1, e2, Int64.sub_zero]
        rw [rX2_way_49]
        simp (disch := omega) only [rX2_way_51, psh_some, psh_none, bnd_r1, bnd_r0, b01_0, b01_1, lg_lt, lg_eq, lg_gt, lg_ge, lg_le, reduceIte, Bool.false_eq_true, and_true, true_and, and_false, false_and, not_true_eq_false, not_false_eq_true, eq_self, nI_add, nI_mul, nI_div, nI_irm, nI_subk, inb_ok, ix_ok, nI_lt_t, nI_lt_f, nI_le_t, nI_le_f, nI_eq_t, nI_eq_f, nI_z, ifb, ifbn, b01_bI, b01_n, Nat.reduceEqDiff, nl_l, nl_n, nl_i, nl_r, Bool.true_eq_false, reduceIte, if_true, if_false]
        exact hnext v _ h1
      · rw [if_neg q] at h3
        rw [eq_false q] at e1
        rw [eq_true (show z ≤ r by omega)] at e2
        simp (disch := omega) only [rX2_way_92, rX2_way_94, rX2_way_96, rX2_way_98, rX2_way_99, rX2_way_102, rX2_way_103, rX2_way_106, rX2_way_107, rX2_way_109, rX2_way_111, rX2_way_113, rX2_way_116, rX2_way_117, rX2_way_120, rX2_way_122, rX2_way_123, rX2_way_125, rX2_way_127, rX2_way_129, rX2_way_132, rX2_way_133, rX2_way_136, rX2_way_137, rX2_way_138, rX2_way_140, psh_some, psh_none, bnd_r1, bnd_r0, b01_0, b01_1, lg_lt, lg_eq, lg_gt, lg_ge, lg_le, reduceIte, Bool.false_eq_true, and_true, true_and, and_false, false_and, not_true_eq_false, not_false_eq_true, eq_self, nI_add, nI_mul, nI_div, nI_irm, nI_subk, inb_ok, ix_ok, nI_lt_t, nI_lt_f, nI_le_t, nI_le_f, nI_eq_t, nI_eq_f, nI_z, ifb, ifbn, b01_bI, b01_n, Nat.reduceEqDiff, nl_l, nl_n, nl_i, nl_r, Bool.true_eq_false, reduceIte, if_true, if_false, e1, e2]
        exact ih (v - u, _) ⟨r - z, jsub h1 hu (by omega), by rw [h4]; omega, h3⟩
    rw [rX2_way_49]
    rcases hlv with ⟨q1, q2⟩ | ⟨e, he, q1, q2⟩
    · subst q1
      simp (disch := omega) only [rX2_way_51, rX2_way_54, rX2_way_56, rX2_way_59, rX2_way_61, rX2_way_63, rX2_way_66, rX2_way_67, rX2_way_70, rX2_way_71, rX2_way_72, rX2_way_75, rX2_way_76, rX2_way_79, rX2_way_81, rX2_way_83, rX2_way_84, rX2_way_86, rX2_way_87, rX2_way_88, psh_some, psh_none, bnd_r1, bnd_r0, b01_0, b01_1, lg_lt, lg_eq, lg_gt, lg_ge, lg_le, reduceIte, Bool.false_eq_true, and_true, true_and, and_false, false_and, not_true_eq_false, not_false_eq_true, eq_self, nI_add, nI_mul, nI_div, nI_irm, nI_subk, inb_ok, ix_ok, nI_lt_t, nI_lt_f, nI_le_t, nI_le_f, nI_eq_t, nI_eq_f, nI_z, ifb, ifbn, b01_bI, b01_n, Nat.reduceEqDiff, nl_l, nl_n, nl_i, nl_r, Bool.true_eq_false, reduceIte, if_true, if_false, ok0_0, ok0_1, ok0_2, ok0_3, ok0_4, ok0_5, ok0_6, ok0_7, ok0_8, ok0_9, ok0_10, ok0_11, ok0_12, ok0_13, ok0_14, ok0_15, ok0_16, ok0_17, ok0_18, ok0_19, ok0_20, ok0_21, ok0_22, ok0_23, ok0_24, ok0_25, ok0_26, ok0_27, ok0_28, ok0_29, ok0_30, ok0_31, ok0_32, ok0_33, ok0_34, ok0_35, ok0_36, ok0_37, ok0_38, ok0_39, ok0_40, ok0_41, ok0_42, ok0_43, ok0_44, ok0_45, ok0_46, ok0_47, ok0_48, ok0_49, ok0_50, ok0_51, ok0_52, ok0_53, ok0_54, ok1_141, ok2_55, ok2_56, ok2_57, ok2_58, ok2_59, ok2_60, ok2_61, ok2_62, ok2_63, ok2_64, ok2_65, ok2_66, ok2_67, ok2_68, ok2_69, ok2_70, ok2_71, ok2_72, ok2_73, ok2_74, ok2_75, ok2_76, ok2_77, ok2_78, ok2_79, ok2_80, ok2_81, ok2_82, ok2_83, ok2_84, ok2_85, ok2_86, ok2_87, ok2_88, ok2_89, ok2_90, ok2_91, ok2_92, ok2_93, ok2_94, ok2_95, ok2_96, ok2_97, ok2_98, ok2_99, ok2_100, ok2_101, ok2_102, ok2_103, ok2_104, ok2_105, ok2_106, ok2_107, ok2_108, ok2_109, ok2_110, ok2_111, ok2_112, ok2_113, ok2_114, ok2_115, ok2_116, ok2_117, ok2_118, ok2_119, ok2_120, ok2_121, ok2_122, ok2_123, ok2_124, ok2_125, ok2_126, ok2_127, ok2_128, ok2_129, ok2_130, ok2_131, ok2_132, ok2_133, ok2_134, ok2_135, ok2_136, ok2_137, ok3_171, ok3_172, ok3_173, ok3_174, ok3_175, ok3_176, ok4_171, ok4_172, ok4_173, ok4_174, ok4_175, ok4_176, ok4_177, ok4_178, ok5_171, ok5_172, ok5_173, ok5_174, ok5_175, ok5_176, ok5_177, ok5_178, ok5_179, ok7_142, ok7_143, ok7_144, ok7_145, ok7_146, ok7_147, ok7_148, ok7_149, ok7_152, ok7_153, ok7_154, ok8_142, ok8_143, ok8_144, ok8_145, ok8_146, ok8_147, ok8_148, ok8_149, ok8_152, ok8_153, ok8_154, ok8_155, ok9_142, ok9_143, ok9_144, ok9_145, ok9_146, ok9_147, ok9_148, ok9_149, ok9_152, ok9_153, ok9_154, ok9_155, ok9_180, ok10_142, ok10_143, ok10_144, ok10_145, ok10_146, ok10_147, ok10_148, ok10_149, ok10_150, ok10_151, ok11_142, ok11_143, ok11_144, ok11_145, ok11_146, ok11_147, ok11_148, ok11_149, ok11_152, ok11_153, ok11_154, ok11_155, ok11_156, ok11_157, ok13_158, ok13_159, ok13_160, ok13_161, ok13_162, ok13_163, ok13_164, ok13_165, ok13_166, ok13_167, ok13_168, ok13_169, ok13_170, ok16_138, ok16_139, ok16_140, ct_a, ct_a5, ct_b, ct_c, ct_d, ct_r50, ct_r51, ct_r52, ct_r53, ct_r54, ms_T, msR_58, msT_137, msL_137, msR_60, msT_138, msL_138, msR_61, msT_139, msL_139, msR_62, msT_140, msL_140, msR_63, msT_141, msL_141, msR_64, msT_142, msL_142, msR_65, msT_143, msL_143, msR_66, msT_144, msL_144, msR_68, msT_145, msL_145, msR_69, msT_146, msL_146, msR_70, msT_147, msL_147, msR_71, msT_148, msL_148, msR_72, msT_149, msL_149, msR_73, msT_150, msL_150, msR_75, msT_151, msL_151, msR_76, msT_152, msL_152, msR_77, msT_153, msL_153, msR_79, msT_154, msL_154, msR_83, msT_155, msL_155, msR_84, msT_156, msL_156, msR_85, msT_157, msL_157, msR_86, msT_158, msL_158, msR_87, msT_159, msL_159, msR_88, msT_160, msL_160, msR_89, msT_161, msL_161, msR_91, msT_162, msL_162, msR_93, msT_163, msL_163, msR_94, msT_164, msL_164, msR_95, msT_165, msL_165, msR_99, msT_166, msL_166, msR_100, msT_167, msL_167, msR_102, msT_168, msL_168, msR_120, msT_169, msL_169, msR_121, msT_170, msL_170, msR_122, msT_171, msL_171, msR_125, msT_172, msL_172, msR_126, msT_173, msL_173, msR_127, msT_174, msL_174, msR_128, msT_175, msL_175, msR_129, msT_176, msL_176, msR_130, msT_177, msL_177, msR_131, msT_178, msL_178, msR_132, msT_179, msL_179, msR_134, msT_180, msL_180, msR_135, msT_181, msL_181, msR_136, msT_182, msL_182, msR_137, msT_183, msL_183, hM, hrow, show ((-1 : Int32) < nI 0) = True by decide]
      exact hgo _ (by rw [hwy, q2, if_pos rfl])
    · subst q1
      have hdi := m_distance (d := d - 1) (G := G) he hc
      have hfr := fr_le he hc
      by_cases qf : fr e c ≤ s 17 m
      · simp (disch := omega) only [rX2_way_51, rX2_way_54, rX2_way_56, rX2_way_59, rX2_way_61, rX2_way_63, rX2_way_66, rX2_way_67, rX2_way_70, rX2_way_71, rX2_way_72, rX2_way_75, rX2_way_76, rX2_way_79, rX2_way_81, rX2_way_83, rX2_way_84, rX2_way_86, rX2_way_87, rX2_way_88, psh_some, psh_none, bnd_r1, bnd_r0, b01_0, b01_1, lg_lt, lg_eq, lg_gt, lg_ge, lg_le, reduceIte, Bool.false_eq_true, and_true, true_and, and_false, false_and, not_true_eq_false, not_false_eq_true, eq_self, nI_add, nI_mul, nI_div, nI_irm, nI_subk, inb_ok, ix_ok, nI_lt_t, nI_lt_f, nI_le_t, nI_le_f, nI_eq_t, nI_eq_f, nI_z, ifb, ifbn, b01_bI, b01_n, Nat.reduceEqDiff, nl_l, nl_n, nl_i, nl_r, Bool.true_eq_false, reduceIte, if_true, if_false, ok0_0, ok0_1, ok0_2, ok0_3, ok0_4, ok0_5, ok0_6, ok0_7, ok0_8, ok0_9, ok0_10, ok0_11, ok0_12, ok0_13, ok0_14, ok0_15, ok0_16, ok0_17, ok0_18, ok0_19, ok0_20, ok0_21, ok0_22, ok0_23, ok0_24, ok0_25, ok0_26, ok0_27, ok0_28, ok0_29, ok0_30, ok0_31, ok0_32, ok0_33, ok0_34, ok0_35, ok0_36, ok0_37, ok0_38, ok0_39, ok0_40, ok0_41, ok0_42, ok0_43, ok0_44, ok0_45, ok0_46, ok0_47, ok0_48, ok0_49, ok0_50, ok0_51, ok0_52, ok0_53, ok0_54, ok1_141, ok2_55, ok2_56, ok2_57, ok2_58, ok2_59, ok2_60, ok2_61, ok2_62, ok2_63, ok2_64, ok2_65, ok2_66, ok2_67, ok2_68, ok2_69, ok2_70, ok2_71, ok2_72, ok2_73, ok2_74, ok2_75, ok2_76, ok2_77, ok2_78, ok2_79, ok2_80, ok2_81, ok2_82, ok2_83, ok2_84, ok2_85, ok2_86, ok2_87, ok2_88, ok2_89, ok2_90, ok2_91, ok2_92, ok2_93, ok2_94, ok2_95, ok2_96, ok2_97, ok2_98, ok2_99, ok2_100, ok2_101, ok2_102, ok2_103, ok2_104, ok2_105, ok2_106, ok2_107, ok2_108, ok2_109, ok2_110, ok2_111, ok2_112, ok2_113, ok2_114, ok2_115, ok2_116, ok2_117, ok2_118, ok2_119, ok2_120, ok2_121, ok2_122, ok2_123, ok2_124, ok2_125, ok2_126, ok2_127, ok2_128, ok2_129, ok2_130, ok2_131, ok2_132, ok2_133, ok2_134, ok2_135, ok2_136, ok2_137, ok3_171, ok3_172, ok3_173, ok3_174, ok3_175, ok3_176, ok4_171, ok4_172, ok4_173, ok4_174, ok4_175, ok4_176, ok4_177, ok4_178, ok5_171, ok5_172, ok5_173, ok5_174, ok5_175, ok5_176, ok5_177, ok5_178, ok5_179, ok7_142, ok7_143, ok7_144, ok7_145, ok7_146, ok7_147, ok7_148, ok7_149, ok7_152, ok7_153, ok7_154, ok8_142, ok8_143, ok8_144, ok8_145, ok8_146, ok8_147, ok8_148, ok8_149, ok8_152, ok8_153, ok8_154, ok8_155, ok9_142, ok9_143, ok9_144, ok9_145, ok9_146, ok9_147, ok9_148, ok9_149, ok9_152, ok9_153, ok9_154, ok9_155, ok9_180, ok10_142, ok10_143, ok10_144, ok10_145, ok10_146, ok10_147, ok10_148, ok10_149, ok10_150, ok10_151, ok11_142, ok11_143, ok11_144, ok11_145, ok11_146, ok11_147, ok11_148, ok11_149, ok11_152, ok11_153, ok11_154, ok11_155, ok11_156, ok11_157, ok13_158, ok13_159, ok13_160, ok13_161, ok13_162, ok13_163, ok13_164, ok13_165, ok13_166, ok13_167, ok13_168, ok13_169, ok13_170, ok16_138, ok16_139, ok16_140, ct_a, ct_a5, ct_b, ct_c, ct_d, ct_r50, ct_r51, ct_r52, ct_r53, ct_r54, ms_T, msR_58, msT_137, msL_137, msR_60, msT_138, msL_138, msR_61, msT_139, msL_139, msR_62, msT_140, msL_140, msR_63, msT_141, msL_141, msR_64, msT_142, msL_142, msR_65, msT_143, msL_143, msR_66, msT_144, msL_144, msR_68, msT_145, msL_145, msR_69, msT_146, msL_146, msR_70, msT_147, msL_147, msR_71, msT_148, msL_148, msR_72, msT_149, msL_149, msR_73, msT_150, msL_150, msR_75, msT_151, msL_151, msR_76, msT_152, msL_152, msR_77, msT_153, msL_153, msR_79, msT_154, msL_154, msR_83, msT_155, msL_155, msR_84, msT_156, msL_156, msR_85, msT_157, msL_157, msR_86, msT_158, msL_158, msR_87, msT_159, msL_159, msR_88, msT_160, msL_160, msR_89, msT_161, msL_161, msR_91, msT_162, msL_162, msR_93, msT_163, msL_163, msR_94, msT_164, msL_164, msR_95, msT_165, msL_165, msR_99, msT_166, msL_166, msR_100, msT_167, msL_167, msR_102, msT_168, msL_168, msR_120, msT_169, msL_169, msR_121, msT_170, msL_170, msR_122, msT_171, msL_171, msR_125, msT_172, msL_172, msR_126, msT_173, msL_173, msR_127, msT_174, msL_174, msR_128, msT_175, msL_175, msR_129, msT_176, msL_176, msR_130, msT_177, msL_177, msR_131, msT_178, msL_178, msR_132, msT_179, msL_179, msR_134, msT_180, msL_180, msR_135, msT_181, msL_181, msR_136, msT_182, msL_182, msR_137, msT_183, msL_183, hM, hrow, hdi, hrm]
        exact hgo _ (by rw [hwy, q2, if_pos (decide_eq_true qf)])
      · simp (disch := omega) only [rX2_way_51, rX2_way_54, rX2_way_56, rX2_way_59, rX2_way_61, rX2_way_63, rX2_way_66, rX2_way_67, rX2_way_70, rX2_way_71, rX2_way_72, rX2_way_91, psh_some, psh_none, bnd_r1, bnd_r0, b01_0, b01_1, lg_lt, lg_eq, lg_gt, lg_ge, lg_le, reduceIte, Bool.false_eq_true, and_true, true_and, and_false, false_and, not_true_eq_false, not_false_eq_true, eq_self, nI_add, nI_mul, nI_div, nI_irm, nI_subk, inb_ok, ix_ok, nI_lt_t, nI_lt_f, nI_le_t, nI_le_f, nI_eq_t, nI_eq_f, nI_z, ifb, ifbn, b01_bI, b01_n, Nat.reduceEqDiff, nl_l, nl_n, nl_i, nl_r, Bool.true_eq_false, reduceIte, if_true, if_false, ok0_0, ok0_1, ok0_2, ok0_3, ok0_4, ok0_5, ok0_6, ok0_7, ok0_8, ok0_9, ok0_10, ok0_11, ok0_12, ok0_13, ok0_14, ok0_15, ok0_16, ok0_17, ok0_18, ok0_19, ok0_20, ok0_21, ok0_22, ok0_23, ok0_24, ok0_25, ok0_26, ok0_27, ok0_28, ok0_29, ok0_30, ok0_31, ok0_32, ok0_33, ok0_34, ok0_35, ok0_36, ok0_37, ok0_38, ok0_39, ok0_40, ok0_41, ok0_42, ok0_43, ok0_44, ok0_45, ok0_46, ok0_47, ok0_48, ok0_49, ok0_50, ok0_51, ok0_52, ok0_53, ok0_54, ok1_141, ok2_55, ok2_56, ok2_57, ok2_58, ok2_59, ok2_60, ok2_61, ok2_62, ok2_63, ok2_64, ok2_65, ok2_66, ok2_67, ok2_68, ok2_69, ok2_70, ok2_71, ok2_72, ok2_73, ok2_74, ok2_75, ok2_76, ok2_77, ok2_78, ok2_79, ok2_80, ok2_81, ok2_82, ok2_83, ok2_84, ok2_85, ok2_86, ok2_87, ok2_88, ok2_89, ok2_90, ok2_91, ok2_92, ok2_93, ok2_94, ok2_95, ok2_96, ok2_97, ok2_98, ok2_99, ok2_100, ok2_101, ok2_102, ok2_103, ok2_104, ok2_105, ok2_106, ok2_107, ok2_108, ok2_109, ok2_110, ok2_111, ok2_112, ok2_113, ok2_114, ok2_115, ok2_116, ok2_117, ok2_118, ok2_119, ok2_120, ok2_121, ok2_122, ok2_123, ok2_124, ok2_125, ok2_126, ok2_127, ok2_128, ok2_129, ok2_130, ok2_131, ok2_132, ok2_133, ok2_134, ok2_135, ok2_136, ok2_137, ok3_171, ok3_172, ok3_173, ok3_174, ok3_175, ok3_176, ok4_171, ok4_172, ok4_173, ok4_174, ok4_175, ok4_176, ok4_177, ok4_178, ok5_171, ok5_172, ok5_173, ok5_174, ok5_175, ok5_176, ok5_177, ok5_178, ok5_179, ok7_142, ok7_143, ok7_144, ok7_145, ok7_146, ok7_147, ok7_148, ok7_149, ok7_152, ok7_153, ok7_154, ok8_142, ok8_143, ok8_144, ok8_145, ok8_146, ok8_147, ok8_148, ok8_149, ok8_152, ok8_153, ok8_154, ok8_155, ok9_142, ok9_143, ok9_144, ok9_145, ok9_146, ok9_147, ok9_148, ok9_149, ok9_152, ok9_153, ok9_154, ok9_155, ok9_180, ok10_142, ok10_143, ok10_144, ok10_145, ok10_146, ok10_147, ok10_148, ok10_149, ok10_150, ok10_151, ok11_142, ok11_143, ok11_144, ok11_145, ok11_146, ok11_147, ok11_148, ok11_149, ok11_152, ok11_153, ok11_154, ok11_155, ok11_156, ok11_157, ok13_158, ok13_159, ok13_160, ok13_161, ok13_162, ok13_163, ok13_164, ok13_165, ok13_166, ok13_167, ok13_168, ok13_169, ok13_170, ok16_138, ok16_139, ok16_140, ct_a, ct_a5, ct_b, ct_c, ct_d, ct_r50, ct_r51, ct_r52, ct_r53, ct_r54, ms_T, msR_58, msT_137, msL_137, msR_60, msT_138, msL_138, msR_61, msT_139, msL_139, msR_62, msT_140, msL_140, msR_63, msT_141, msL_141, msR_64, msT_142, msL_142, msR_65, msT_143, msL_143, msR_66, msT_144, msL_144, msR_68, msT_145, msL_145, msR_69, msT_146, msL_146, msR_70, msT_147, msL_147, msR_71, msT_148, msL_148, msR_72, msT_149, msL_149, msR_73, msT_150, msL_150, msR_75, msT_151, msL_151, msR_76, msT_152, msL_152, msR_77, msT_153, msL_153, msR_79, msT_154, msL_154, msR_83, msT_155, msL_155, msR_84, msT_156, msL_156, msR_85, msT_157, msL_157, msR_86, msT_158, msL_158, msR_87, msT_159, msL_159, msR_88, msT_160, msL_160, msR_89, msT_161, msL_161, msR_91, msT_162, msL_162, msR_93, msT_163, msL_163, msR_94, msT_164, msL_164, msR_95, msT_165, msL_165, msR_99, msT_166, msL_166, msR_100, msT_167, msL_167, msR_102, msT_168, msL_168, msR_120, msT_169, msL_169, msR_121, msT_170, msL_170, msR_122, msT_171, msL_171, msR_125, msT_172, msL_172, msR_126, msT_173, msL_173, msR_127, msT_174, msL_174, msR_128, msT_175, msL_175, msR_129, msT_176, msL_176, msR_130, msT_177, msL_177, msR_131, msT_178, msL_178, msR_132, msT_179, msL_179, msR_134, msT_180, msL_180, msR_135, msT_181, msL_181, msR_136, msT_182, msL_182, msR_137, msT_183, msL_183, hM, hrow, hdi, hrm]
        have hz : p c = false := by rw [q2]; exact decide_eq_false qf
        exact hgo 0 (by rw [hz]; rfl)
  · rintro ⟨v, l11⟩ ⟨r, h1, h2, h3⟩
    omega
set_option maxHeartbeats 4000000 in
theorem mo_way {x y : Int32} {n : Int64} (hS : SB s) (hd : 20 ≤ d) : MO d 241 [vi x, vl n, vi y] s h w (vi (aWay s x n y)) s h w := fun G hT => by
  have h0 := hS.1
  have hM := hT.1
  have hR := hT.2.1
  have hno := m_noTick (d := d - 1) (m := x) (t := y) hM hR hS (by omega)
  rw [en241]
  unfold aWay okW
  cases hq : inR x (s 26 0) && inR y (s 16 (ix x)) with
  | false =>
    rw [hq] at hno
    refine ⟨G, ?_, Sm.refl G, hT⟩
    simp (disch := omega) only [rX2_way_0, rX2_way_1, rX2_way_2, rX2_way_4, rX2_way_7, rX2_way_25, rX2_way_26, psh_some, psh_none, bnd_r1, bnd_r0, b01_0, b01_1, lg_lt, lg_eq, lg_gt, lg_ge, lg_le, reduceIte, Bool.false_eq_true, and_true, true_and, and_false, false_and, not_true_eq_false, not_false_eq_true, eq_self, nI_add, nI_mul, nI_div, nI_irm, nI_subk, inb_ok, ix_ok, nI_lt_t, nI_lt_f, nI_le_t, nI_le_f, nI_eq_t, nI_eq_f, nI_z, ifb, ifbn, b01_bI, b01_n, Nat.reduceEqDiff, nl_l, nl_n, nl_i, nl_r, Bool.true_eq_false, reduceIte, if_true, if_false, ok0_0, ok0_1, ok0_2, ok0_3, ok0_4, ok0_5, ok0_6, ok0_7, ok0_8, ok0_9, ok0_10, ok0_11, ok0_12, ok0_13, ok0_14, ok0_15, ok0_16, ok0_17, ok0_18, ok0_19, ok0_20, ok0_21, ok0_22, ok0_23, ok0_24, ok0_25, ok0_26, ok0_27, ok0_28, ok0_29, ok0_30, ok0_31, ok0_32, ok0_33, ok0_34, ok0_35, ok0_36, ok0_37, ok0_38, ok0_39, ok0_40, ok0_41, ok0_42, ok0_43, ok0_44, ok0_45, ok0_46, ok0_47, ok0_48, ok0_49, ok0_50, ok0_51, ok0_52, ok0_53, ok0_54, ok1_141, ok2_55, ok2_56, ok2_57, ok2_58, ok2_59, ok2_60, ok2_61, ok2_62, ok2_63, ok2_64, ok2_65, ok2_66, ok2_67, ok2_68, ok2_69, ok2_70, ok2_71, ok2_72, ok2_73, ok2_74, ok2_75, ok2_76, ok2_77, ok2_78, ok2_79, ok2_80, ok2_81, ok2_82, ok2_83, ok2_84, ok2_85, ok2_86, ok2_87, ok2_88, ok2_89, ok2_90, ok2_91, ok2_92, ok2_93, ok2_94, ok2_95, ok2_96, ok2_97, ok2_98, ok2_99, ok2_100, ok2_101, ok2_102, ok2_103, ok2_104, ok2_105, ok2_106, ok2_107, ok2_108, ok2_109, ok2_110, ok2_111, ok2_112, ok2_113, ok2_114, ok2_115, ok2_116, ok2_117, ok2_118, ok2_119, ok2_120, ok2_121, ok2_122, ok2_123, ok2_124, ok2_125, ok2_126, ok2_127, ok2_128, ok2_129, ok2_130, ok2_131, ok2_132, ok2_133, ok2_134, ok2_135, ok2_136, ok2_137, ok3_171, ok3_172, ok3_173, ok3_174, ok3_175, ok3_176, ok4_171, ok4_172, ok4_173, ok4_174, ok4_175, ok4_176, ok4_177, ok4_178, ok5_171, ok5_172, ok5_173, ok5_174, ok5_175, ok5_176, ok5_177, ok5_178, ok5_179, ok7_142, ok7_143, ok7_144, ok7_145, ok7_146, ok7_147, ok7_148, ok7_149, ok7_152, ok7_153, ok7_154, ok8_142, ok8_143, ok8_144, ok8_145, ok8_146, ok8_147, ok8_148, ok8_149, ok8_152, ok8_153, ok8_154, ok8_155, ok9_142, ok9_143, ok9_144, ok9_145, ok9_146, ok9_147, ok9_148, ok9_149, ok9_152, ok9_153, ok9_154, ok9_155, ok9_180, ok10_142, ok10_143, ok10_144, ok10_145, ok10_146, ok10_147, ok10_148, ok10_149, ok10_150, ok10_151, ok11_142, ok11_143, ok11_144, ok11_145, ok11_146, ok11_147, ok11_148, ok11_149, ok11_152, ok11_153, ok11_154, ok11_155, ok11_156, ok11_157, ok13_158, ok13_159, ok13_160, ok13_161, ok13_162, ok13_163, ok13_164, ok13_165, ok13_166, ok13_167, ok13_168, ok13_169, ok13_170, ok16_138, ok16_139, ok16_140, ct_a, ct_a5, ct_b, ct_c, ct_d, ct_r50, ct_r51, ct_r52, ct_r53, ct_r54, ms_T, msR_58, msT_137, msL_137, msR_60, msT_138, msL_138, msR_61, msT_139, msL_139, msR_62, msT_140, msL_140, msR_63, msT_141, msL_141, msR_64, msT_142, msL_142, msR_65, msT_143, msL_143, msR_66, msT_144, msL_144, msR_68, msT_145, msL_145, msR_69, msT_146, msL_146, msR_70, msT_147, msL_147, msR_71, msT_148, msL_148, msR_72, msT_149, msL_149, msR_73, msT_150, msL_150, msR_75, msT_151, msL_151, msR_76, msT_152, msL_152, msR_77, msT_153, msL_153, msR_79, msT_154, msL_154, msR_83, msT_155, msL_155, msR_84, msT_156, msL_156, msR_85, msT_157, msL_157, msR_86, msT_158, msL_158, msR_87, msT_159, msL_159, msR_88, msT_160, msL_160, msR_89, msT_161, msL_161, msR_91, msT_162, msL_162, msR_93, msT_163, msL_163, msR_94, msT_164, msL_164, msR_95, msT_165, msL_165, msR_99, msT_166, msL_166, msR_100, msT_167, msL_167, msR_102, msT_168, msL_168, msR_120, msT_169, msL_169, msR_121, msT_170, msL_170, msR_122, msT_171, msL_171, msR_125, msT_172, msL_172, msR_126, msT_173, msL_173, msR_127, msT_174, msL_174, msR_128, msT_175, msL_175, msR_129, msT_176, msL_176, msR_130, msT_177, msL_177, msR_131, msT_178, msL_178, msR_132, msT_179, msL_179, msR_134, msT_180, msL_180, msR_135, msT_181, msL_181, msR_136, msT_182, msL_182, msR_137, msT_183, msL_183, hM, hno, Bool.not_false, Bool.false_and]
    first | done | rfl
  | true =>
    rw [hq] at hno
    rw [Bool.and_eq_true] at hq
    rcases inR_of (x := x) (n := s 26 0) (by omega) with ⟨m, hm, rfl, -⟩ | hx
    · rw [ix_ok (by omega)] at hq ⊢
      have hmv := hS.2.2.2.2.2.2 m hm
      rcases inR_of (x := y) (n := s 16 m) (by omega) with ⟨t, ht, rfl, -⟩ | hy
      · rw [ix_ok (by omega)]
        obtain ⟨G1, e1, e2, e3, e4⟩ := m_waysOf (d := d - 1) hm hM hR hT.2.2.1 (by omega) hS
        have hM1 := e2.ms hM
        have hR1 := e2.tr (by decide) hR
        have hall := wyAll_wn (s := s) (m := m) (by omega)
        have hall1 : (wyAll s m - 1).toInt = (wnAll s m : Int) - 1 := by
          have : wnAll s m ≤ 281474976710656 := wnS_wn (by omega)
          rw [Int64.toInt_sub, hall]
          exact Int.bmod_eq_of_le (by rw [show (1 : Int64).toInt = 1 from rfl]; omega) (by rw [show (1 : Int64).toInt = 1 from rfl]; omega)
        have hin : inL n.toInt 0 ((wnAll s m : Int) - 1) = decide (0 ≤ n.toInt ∧ n.toInt < (wnAll s m : Int)) := by
          unfold inL
          by_cases z : 0 ≤ n.toInt ∧ n.toInt < (wnAll s m : Int)
          · rw [decide_eq_true z]; exact decide_eq_true (by omega)
          · rw [decide_eq_false z]; exact decide_eq_false (by omega)
        simp (disch := omega) only [rX2_way_0, rX2_way_1, rX2_way_2, rX2_way_4, rX2_way_7, rX2_way_10, rX2_way_11, rX2_way_12, rX2_way_13, rX2_way_14, rX2_way_17, rX2_way_18, rX2_way_19, psh_some, psh_none, bnd_r1, bnd_r0, b01_0, b01_1, lg_lt, lg_eq, lg_gt, lg_ge, lg_le, reduceIte, Bool.false_eq_true, and_true, true_and, and_false, false_and, not_true_eq_false, not_false_eq_true, eq_self, nI_add, nI_mul, nI_div, nI_irm, nI_subk, inb_ok, ix_ok, nI_lt_t, nI_lt_f, nI_le_t, nI_le_f, nI_eq_t, nI_eq_f, nI_z, ifb, ifbn, b01_bI, b01_n, Nat.reduceEqDiff, nl_l, nl_n, nl_i, nl_r, Bool.true_eq_false, reduceIte, if_true, if_false, ok0_0, ok0_1, ok0_2, ok0_3, ok0_4, ok0_5, ok0_6, ok0_7, ok0_8, ok0_9, ok0_10, ok0_11, ok0_12, ok0_13, ok0_14, ok0_15, ok0_16, ok0_17, ok0_18, ok0_19, ok0_20, ok0_21, ok0_22, ok0_23, ok0_24, ok0_25, ok0_26, ok0_27, ok0_28, ok0_29, ok0_30, ok0_31, ok0_32, ok0_33, ok0_34, ok0_35, ok0_36, ok0_37, ok0_38, ok0_39, ok0_40, ok0_41, ok0_42, ok0_43, ok0_44, ok0_45, ok0_46, ok0_47, ok0_48, ok0_49, ok0_50, ok0_51, ok0_52, ok0_53, ok0_54, ok1_141, ok2_55, ok2_56, ok2_57, ok2_58, ok2_59, ok2_60, ok2_61, ok2_62, ok2_63, ok2_64, ok2_65, ok2_66, ok2_67, ok2_68, ok2_69, ok2_70, ok2_71, ok2_72, ok2_73, ok2_74, ok2_75, ok2_76, ok2_77, ok2_78, ok2_79, ok2_80, ok2_81, ok2_82, ok2_83, ok2_84, ok2_85, ok2_86, ok2_87, ok2_88, ok2_89, ok2_90, ok2_91, ok2_92, ok2_93, ok2_94, ok2_95, ok2_96, ok2_97, ok2_98, ok2_99, ok2_100, ok2_101, ok2_102, ok2_103, ok2_104, ok2_105, ok2_106, ok2_107, ok2_108, ok2_109, ok2_110, ok2_111, ok2_112, ok2_113, ok2_114, ok2_115, ok2_116, ok2_117, ok2_118, ok2_119, ok2_120, ok2_121, ok2_122, ok2_123, ok2_124, ok2_125, ok2_126, ok2_127, ok2_128, ok2_129, ok2_130, ok2_131, ok2_132, ok2_133, ok2_134, ok2_135, ok2_136, ok2_137, ok3_171, ok3_172, ok3_173, ok3_174, ok3_175, ok3_176, ok4_171, ok4_172, ok4_173, ok4_174, ok4_175, ok4_176, ok4_177, ok4_178, ok5_171, ok5_172, ok5_173, ok5_174, ok5_175, ok5_176, ok5_177, ok5_178, ok5_179, ok7_142, ok7_143, ok7_144, ok7_145, ok7_146, ok7_147, ok7_148, ok7_149, ok7_152, ok7_153, ok7_154, ok8_142, ok8_143, ok8_144, ok8_145, ok8_146, ok8_147, ok8_148, ok8_149, ok8_152, ok8_153, ok8_154, ok8_155, ok9_142, ok9_143, ok9_144, ok9_145, ok9_146, ok9_147, ok9_148, ok9_149, ok9_152, ok9_153, ok9_154, ok9_155, ok9_180, ok10_142, ok10_143, ok10_144, ok10_145, ok10_146, ok10_147, ok10_148, ok10_149, ok10_150, ok10_151, ok11_142, ok11_143, ok11_144, ok11_145, ok11_146, ok11_147, ok11_148, ok11_149, ok11_152, ok11_153, ok11_154, ok11_155, ok11_156, ok11_157, ok13_158, ok13_159, ok13_160, ok13_161, ok13_162, ok13_163, ok13_164, ok13_165, ok13_166, ok13_167, ok13_168, ok13_169, ok13_170, ok16_138, ok16_139, ok16_140, ct_a, ct_a5, ct_b, ct_c, ct_d, ct_r50, ct_r51, ct_r52, ct_r53, ct_r54, ms_T, msR_58, msT_137, msL_137, msR_60, msT_138, msL_138, msR_61, msT_139, msL_139, msR_62, msT_140, msL_140, msR_63, msT_141, msL_141, msR_64, msT_142, msL_142, msR_65, msT_143, msL_143, msR_66, msT_144, msL_144, msR_68, msT_145, msL_145, msR_69, msT_146, msL_146, msR_70, msT_147, msL_147, msR_71, msT_148, msL_148, msR_72, msT_149, msL_149, msR_73, msT_150, msL_150, msR_75, msT_151, msL_151, msR_76, msT_152, msL_152, msR_77, msT_153, msL_153, msR_79, msT_154, msL_154, msR_83, msT_155, msL_155, msR_84, msT_156, msL_156, msR_85, msT_157, msL_157, msR_86, msT_158, msL_158, msR_87, msT_159, msL_159, msR_88, msT_160, msL_160, msR_89, msT_161, msL_161, msR_91, msT_162, msL_162, msR_93, msT_163, msL_163, msR_94, msT_164, msL_164, msR_95, msT_165, msL_165, msR_99, msT_166, msL_166, msR_100, msT_167, msL_167, msR_102, msT_168, msL_168, msR_120, msT_169, msL_169, msR_121, msT_170, msL_170, msR_122, msT_171, msL_171, msR_125, msT_172, msL_172, msR_126, msT_173, msL_173, msR_127, msT_174, msL_174, msR_128, msT_175, msL_175, msR_129, msT_176, msL_176, msR_130, msT_177, msL_177, msR_131, msT_178, msL_178, msR_132, msT_179, msL_179, msR_134, msT_180, msL_180, msR_135, msT_181, msL_181, msR_136, msT_182, msL_182, msR_137, msT_183, msL_183, hM, hno, e1, Bool.not_true, m_in, hall1, show (0 : Int64).toInt = 0 from rfl, hin]
        refine (fun (q : _ = _) => ⟨G1, q, e2.tw (by decide), hT.q e2 e3 (by decide)⟩) ?_
        by_cases z : 0 ≤ n.toInt ∧ n.toInt < (wnAll s m : Int)
        · rw [decide_eq_true z]
          obtain ⟨N, hN⟩ : ∃ N : Nat, n.toInt = N := ⟨n.toInt.toNat, by omega⟩
          have hN2 : N < wnAll s m := by omega
          rw [hN, Int.toNat_natCast]
          simp (disch := omega) only [rX2_way_22, rX2_way_27, rX2_way_28, rX2_way_30, rX2_way_31, rX2_way_33, rX2_way_34, psh_some, psh_none, bnd_r1, bnd_r0, b01_0, b01_1, lg_lt, lg_eq, lg_gt, lg_ge, lg_le, reduceIte, Bool.false_eq_true, and_true, true_and, and_false, false_and, not_true_eq_false, not_false_eq_true, eq_self, nI_add, nI_mul, nI_div, nI_irm, nI_subk, inb_ok, ix_ok, nI_lt_t, nI_lt_f, nI_le_t, nI_le_f, nI_eq_t, nI_eq_f, nI_z, ifb, ifbn, b01_bI, b01_n, Nat.reduceEqDiff, nl_l, nl_n, nl_i, nl_r, Bool.true_eq_false, reduceIte, if_true, if_false, Bool.and_self, if_true]
          refine lpQ (P := fun k (q : Int64 × Int32 × Option AV × Option AV × Option AV) => At d 241 36 [some (vr (some 136)), some (vi (nI m)), some (vl n), none, some (vi (nI t)), some (vl q.1), none, some (vi q.2.1), some (vi (nI k)), q.2.2.1, q.2.2.2.1, q.2.2.2.2, none] [] G1) (Q := fun q => q = some (.inl (some (vi (nI (wayP s m N t).1))), G1)) (fun k q => (k = 0 ∧ q.1.toInt = N ∧ q.2.1 = -1) ∨ ∃ j, k = j + 1 ∧ q.1.toInt = (wayP s m N j).2 ∧ q.2.1 = nI (wayP s m N j).1) (t + 1) ?_ ?_ (Nat.zero_le _) (s := (n, -1, none, none, none)) (Or.inl ⟨rfl, hN, rfl⟩)
          · rintro k ⟨v, lv, l9, l10, l11⟩ hk hi ih
            dsimp only at hi ih ⊢
            rw [rX2_way_36]
            simp (disch := omega) only [rX2_way_38, rX2_way_40, psh_some, psh_none, bnd_r1, bnd_r0, b01_0, b01_1, lg_lt, lg_eq, lg_gt, lg_ge, lg_le, reduceIte, Bool.false_eq_true, and_true, true_and, and_false, false_and, not_true_eq_false, not_false_eq_true, eq_self, nI_add, nI_mul, nI_div, nI_irm, nI_subk, inb_ok, ix_ok, nI_lt_t, nI_lt_f, nI_le_t, nI_le_f, nI_eq_t, nI_eq_f, nI_z, ifb, ifbn, b01_bI, b01_n, Nat.reduceEqDiff, nl_l, nl_n, nl_i, nl_r, Bool.true_eq_false, reduceIte, if_true, if_false]
            rcases hi with ⟨rfl, i1, i2⟩ | ⟨j, rfl, i1, i2⟩
            · refine m_wayC (s := s) (m := m) (k := 0) (r0 := N) (p := fun _ => true) (Q := fun q => q = some (.inl (some (vi (nI (wayP s m N t).1))), G1)) rfl hm (by omega) i1 hN2 (Or.inl ⟨i2, rfl⟩) e4 hM1 hR1 hS (by omega) (fun v' l' hv' => ?_)
              simp (disch := omega) only [rX2_way_143, rX2_way_145, rX2_way_147, rX2_way_150, psh_some, psh_none, bnd_r1, bnd_r0, b01_0, b01_1, lg_lt, lg_eq, lg_gt, lg_ge, lg_le, reduceIte, Bool.false_eq_true, and_true, true_and, and_false, false_and, not_true_eq_false, not_false_eq_true, eq_self, nI_add, nI_mul, nI_div, nI_irm, nI_subk, inb_ok, ix_ok, nI_lt_t, nI_lt_f, nI_le_t, nI_le_f, nI_eq_t, nI_eq_f, nI_z, ifb, ifbn, b01_bI, b01_n, Nat.reduceEqDiff, nl_l, nl_n, nl_i, nl_r, Bool.true_eq_false, reduceIte, if_true, if_false]
              exact ih (v', _, _, _, l') (Or.inr ⟨0, rfl, hv', rfl⟩)
            · have hok := wayP_ok hN2 j (by omega)
              have hok2 : (wayP s m N j).2 < wnS (fun c => decide (fr (wayP s m N j).1 c ≤ s 17 m)) (wn s m (s 16 m - 1 - (j + 1))) 64 := by
                have h2 := hok.2
                rw [show s 16 m - 1 - j = (s 16 m - 1 - (j + 1)) + 1 by omega] at h2
                unfold wn at h2
                split at h2
                · exact h2
                · omega
              refine m_wayC (s := s) (m := m) (k := j + 1) (r0 := (wayP s m N j).2) (p := fun c => decide (fr (wayP s m N j).1 c ≤ s 17 m)) (Q := fun q => q = some (.inl (some (vi (nI (wayP s m N t).1))), G1)) rfl hm (by omega) i1 hok2 (Or.inr ⟨_, hok.1, i2, rfl⟩) e4 hM1 hR1 hS (by omega) (fun v' l' hv' => ?_)
              simp (disch := omega) only [rX2_way_143, rX2_way_145, rX2_way_147, rX2_way_150, psh_some, psh_none, bnd_r1, bnd_r0, b01_0, b01_1, lg_lt, lg_eq, lg_gt, lg_ge, lg_le, reduceIte, Bool.false_eq_true, and_true, true_and, and_false, false_and, not_true_eq_false, not_false_eq_true, eq_self, nI_add, nI_mul, nI_div, nI_irm, nI_subk, inb_ok, ix_ok, nI_lt_t, nI_lt_f, nI_le_t, nI_le_f, nI_eq_t, nI_eq_f, nI_z, ifb, ifbn, b01_bI, b01_n, Nat.reduceEqDiff, nl_l, nl_n, nl_i, nl_r, Bool.true_eq_false, reduceIte, if_true, if_false]
              exact ih (v', _, _, _, l') (Or.inr ⟨j + 1, rfl, hv', rfl⟩)
          · rintro ⟨v, lv, l9, l10, l11⟩ hi
            dsimp only at hi ⊢
            rcases hi with ⟨q, -⟩ | ⟨j, q, i1, i2⟩
            · omega
            · have : j = t := by omega
              subst this
              rw [rX2_way_36]
              simp (disch := omega) only [rX2_way_38, rX2_way_40, rX2_way_153, rX2_way_155, psh_some, psh_none, bnd_r1, bnd_r0, b01_0, b01_1, lg_lt, lg_eq, lg_gt, lg_ge, lg_le, reduceIte, Bool.false_eq_true, and_true, true_and, and_false, false_and, not_true_eq_false, not_false_eq_true, eq_self, nI_add, nI_mul, nI_div, nI_irm, nI_subk, inb_ok, ix_ok, nI_lt_t, nI_lt_f, nI_le_t, nI_le_f, nI_eq_t, nI_eq_f, nI_z, ifb, ifbn, b01_bI, b01_n, Nat.reduceEqDiff, nl_l, nl_n, nl_i, nl_r, Bool.true_eq_false, reduceIte, if_true, if_false, i2]
        · rw [decide_eq_false z]
          simp (disch := omega) only [rX2_way_22, rX2_way_25, rX2_way_26, psh_some, psh_none, bnd_r1, bnd_r0, b01_0, b01_1, lg_lt, lg_eq, lg_gt, lg_ge, lg_le, reduceIte, Bool.false_eq_true, and_true, true_and, and_false, false_and, not_true_eq_false, not_false_eq_true, eq_self, nI_add, nI_mul, nI_div, nI_irm, nI_subk, inb_ok, ix_ok, nI_lt_t, nI_lt_f, nI_le_t, nI_le_f, nI_eq_t, nI_eq_f, nI_z, ifb, ifbn, b01_bI, b01_n, Nat.reduceEqDiff, nl_l, nl_n, nl_i, nl_r, Bool.true_eq_false, reduceIte, if_true, if_false, Bool.and_false]
          first | done | rfl
      · rw [hy] at hq; exact absurd hq.2 (by decide)
    · rw [hx] at hq; exact absurd hq.1 (by decide)
end
