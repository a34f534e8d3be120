/-! the class: narrowing -/
/-- a loop over the bits of a long -/
theorem btR {S R : Type} {P : Int64 → S → R} {Q : R → Prop} {p : Nat → Bool} (I : Nat → S → Prop) (step : ∀ k s, k < 64 → p k = true → I k s → (∀ s', I (k + 1) s' → Q (P (wd (fromC p (k + 1))) s')) → Q (P (wd (fromC p k)) s)) (skip : ∀ k s, k < 64 → p k = false → I k s → I (k + 1) s) (done : ∀ s, I 64 s → Q (P 0 s)) {s : S} (h : I 0 s) : Q (P (wd p) s) := by
  have hg : ∀ m k s, k + m = 64 → I k s → Q (P (wd (fromC p k)) s) := by
    intro m
    induction m with
    | zero =>
      intro k s hk hi
      have : k = 64 := by omega
      subst this
      rw [wd_from64 (Nat.le_refl _)]
      exact done s hi
    | succ m ih =>
      intro k s hk hi
      cases q : p k with
      | false =>
        rw [wd_skip q]
        exact ih (k + 1) s (by omega) (skip k s (by omega) q hi)
      | true => exact step k s (by omega) q hi (fun s' hs => ih (k + 1) s' (by omega) hs)
  rw [← wd_from0]
  exact hg 64 0 s rfl h
theorem bI_or {a b : Bool} : bI a ||| bI b = bI (a || b) := by cases a <;> cases b <;> rfl
theorem bI_and {a b : Bool} : bI a &&& bI b = bI (a && b) := by cases a <;> cases b <;> rfl
theorem told_isC {s : SGT} {t c : Nat} (hS : SB s) (ht : t < s 0 2) (h : told s t c = true) : isC s c = true := by
  have h1 := hS.2.2.1 t ht
  have hf : ∀ c, fre s c = true → isC s c = true := fun c h => by unfold fre at h; rw [Bool.and_eq_true] at h; exact h.1
  unfold told at h
  split at h
  · rw [Bool.and_eq_true] at h; exact hf c h.1
  · have hc : c = s 3 t := of_decide_eq_true h
    rw [hc]
    exact hf _ (h1.2.2.1 (by omega)).2
theorem anyC_congr {p q : Nat → Bool} (h : ∀ c, c < 64 → p c = q c) : anyC p = anyC q := by
  cases hq : anyC q with
  | true =>
    obtain ⟨e, he, w⟩ := anyC_iff.mp hq
    exact anyC_iff.mpr ⟨e, he, by rw [h e he]; exact w⟩
  | false =>
    cases hp : anyC p with
    | false => rfl
    | true =>
      obtain ⟨e, he, w⟩ := anyC_iff.mp hp
      rw [h e he] at w
      rw [anyC_iff.mpr ⟨e, he, w⟩] at hq
      cases hq
theorem styA_kf {s : SGT} {m : Nat} {A B : Nat → Bool} (hA : ∀ c, c < 64 → A c = true → isC s c = true) (hB : ∀ c, c < 64 → B c = true → isC s c = true) : ∀ c, c < 64 → styA (kpt s m) A B c = styA (fw s m) A B c := fun c hc => by
  unfold styA
  cases q : A c with
  | false => rfl
  | true =>
    rw [Bool.true_and, Bool.true_and]
    refine anyC_congr fun e he => ?_
    unfold fw
    cases q2 : B e with
    | false => simp
    | true => rw [hA c hc q, hB e he q2]; simp
theorem styB_kf {s : SGT} {m : Nat} {A B : Nat → Bool} (hA : ∀ c, c < 64 → A c = true → isC s c = true) (hB : ∀ c, c < 64 → B c = true → isC s c = true) : ∀ c, c < 64 → styB (kpt s m) A B c = styB (fw s m) A B c := fun c hc => by
  unfold styB
  cases q : B c with
  | false => rfl
  | true =>
    rw [Bool.true_and, Bool.true_and]
    refine anyC_congr fun e he => ?_
    unfold fw
    cases q2 : A e with
    | false => simp
    | true => rw [hA e he q2, hB c hc q]; simp
section
variable {d : Nat} {G G' : AH} {s : SGT} {h : Nat → Nat → Int64} {w : Int32} {et em : Nat} {rt rm : Nat → Nat} {l f : List Nat}
theorem x_left {A B : Nat → Bool} {k : Nat → Nat → Bool} {q : Nat} (hT : hT G q = 41) (hL : hL G q = 64) (hk : ∀ c, c < 64 → hJ G q c = wd (k c)) (hd : 2 ≤ d) : cl d 40 [vl (wd A), vl (wd B), vr (some q)] G = some (.inl (some (vl (wd (fun c => A c && anyC (fun e => k c e && B e))))), G) := by
  rw [en40]
  simp (disch := omega) only [rX0_left_0, rX0_left_1, rX0_left_3, rX0_left_4, psh_some, psh_none, bnd_r1, bnd_r0, b01_0, b01_1, lg_lt, lg_eq, lg_gt, lg_ge, lg_le, reduceIte, Bool.false_eq_true, and_true, true_and, and_false, false_and, not_true_eq_false, not_false_eq_true, eq_self, nI_add, nI_mul, nI_div, nI_irm, nI_subk, inb_ok, ix_ok, nI_lt_t, nI_lt_f, nI_le_t, nI_le_f, nI_eq_t, nI_eq_f, nI_z, ifb, ifbn, b01_bI, b01_n, Nat.reduceEqDiff, nl_l, nl_n, nl_i, nl_r, Bool.true_eq_false, reduceIte, if_true, if_false]
  refine btR (P := fun rest (r : Int64 × Option AV) => At d 40 6 [some (vl (wd A)), none, some (vl (wd B)), none, some (vr (some q)), some (vl r.1), none, some (vl rest), none, r.2] [] G) (Q := fun r => r = some (.inl (some (vl (wd (fun c => A c && anyC (fun e => k c e && B e))))), G)) (p := A) (fun j r => r.1 = wd (fun c => (A c && anyC (fun e => k c e && B e)) && decide (c < j))) ?_ ?_ ?_ (s := (0, none)) acc_0.symm
  · rintro j ⟨v, l9⟩ hj ha hv ih
    dsimp only at hv ih ⊢
    have hnz := wd_fromne hj ha
    have hlow := wd_low hj ha
    have hntz := c_ntz (d := d - 1) (G := G) (low_from hj ha) (by omega)
    have hkj := hk j hj
    have hbit := x_bit (d := d - 1) (G := G) hj
    have k1 : (wd (fun e => k j e && B e) = 0) = (anyC (fun e => k j e && B e) = false) := propext anyC_f.symm
    rw [rX0_left_6]
    cases q2 : anyC (fun e => k j e && B e) with
    | true =>
      have hst : v ||| wd (fun e => e == j) = wd (fun c => (A c && anyC (fun e => k c e && B e)) && decide (c < j + 1)) := by
        rw [hv, wd_or]
        refine wd_congr fun c hc => ?_
        by_cases e : c = j
        · subst e; rw [ha, q2]; simp
        · have h1 : (c == j) = false := by simpa using e
          have h2 : decide (c < j + 1) = decide (c < j) := decide_eq_decide.mpr (by omega)
          rw [h1, h2, Bool.or_false]
      simp (disch := omega) only [rX0_left_8, rX0_left_9, rX0_left_10, rX0_left_13, rX0_left_15, rX0_left_18, rX0_left_20, rX0_left_22, rX0_left_24, rX0_left_26, rX0_left_27, rX0_left_28, rX0_left_29, rX0_left_30, rX0_left_31, rX0_left_34, rX0_left_36, rX0_left_39, rX0_left_42, rX0_left_43, rX0_left_44, rX0_left_46, rX0_left_48, rX0_left_50, rX0_left_51, rX0_left_52, rX0_left_53, rX0_left_55, psh_some, psh_none, bnd_r1, bnd_r0, b01_0, b01_1, lg_lt, lg_eq, lg_gt, lg_ge, lg_le, reduceIte, Bool.false_eq_true, and_true, true_and, and_false, false_and, not_true_eq_false, not_false_eq_true, eq_self, nI_add, nI_mul, nI_div, nI_irm, nI_subk, inb_ok, ix_ok, nI_lt_t, nI_lt_f, nI_le_t, nI_le_f, nI_eq_t, nI_eq_f, nI_z, ifb, ifbn, b01_bI, b01_n, Nat.reduceEqDiff, nl_l, nl_n, nl_i, nl_r, Bool.true_eq_false, reduceIte, if_true, if_false, hnz, hntz, hT, hL, hkj, wd_and, k1, q2, hbit, hlow, hst]
      exact ih (_, _) rfl
    | false =>
      have hst : v ||| 0 = wd (fun c => (A c && anyC (fun e => k c e && B e)) && decide (c < j + 1)) := by
        rw [hv, ← wd_0, wd_or]
        refine wd_congr fun c hc => ?_
        by_cases e : c = j
        · subst e; rw [q2]; simp
        · have h2 : decide (c < j + 1) = decide (c < j) := decide_eq_decide.mpr (by omega)
          rw [h2, Bool.or_false]
      simp (disch := omega) only [rX0_left_8, rX0_left_9, rX0_left_10, rX0_left_13, rX0_left_15, rX0_left_18, rX0_left_20, rX0_left_22, rX0_left_24, rX0_left_26, rX0_left_27, rX0_left_28, rX0_left_29, rX0_left_30, rX0_left_31, rX0_left_34, rX0_left_36, rX0_left_39, rX0_left_42, rX0_left_43, rX0_left_44, rX0_left_46, rX0_left_48, rX0_left_50, rX0_left_51, rX0_left_52, rX0_left_53, rX0_left_55, psh_some, psh_none, bnd_r1, bnd_r0, b01_0, b01_1, lg_lt, lg_eq, lg_gt, lg_ge, lg_le, reduceIte, Bool.false_eq_true, and_true, true_and, and_false, false_and, not_true_eq_false, not_false_eq_true, eq_self, nI_add, nI_mul, nI_div, nI_irm, nI_subk, inb_ok, ix_ok, nI_lt_t, nI_lt_f, nI_le_t, nI_le_f, nI_eq_t, nI_eq_f, nI_z, ifb, ifbn, b01_bI, b01_n, Nat.reduceEqDiff, nl_l, nl_n, nl_i, nl_r, Bool.true_eq_false, reduceIte, if_true, if_false, hnz, hntz, hT, hL, hkj, wd_and, k1, q2, hlow, hst]
      exact ih (_, _) rfl
  · rintro j ⟨v, l9⟩ hj ha hv
    dsimp only at hv ⊢
    rw [hv]
    refine wd_congr fun c hc => ?_
    by_cases e : c = j
    · subst e; rw [ha]; simp
    · have h2 : decide (c < j + 1) = decide (c < j) := decide_eq_decide.mpr (by omega)
      rw [h2]
  · rintro ⟨v, l9⟩ hv
    dsimp only at hv ⊢
    rw [acc_64] at hv
    rw [rX0_left_6]
    simp (disch := omega) only [rX0_left_8, rX0_left_9, rX0_left_10, rX0_left_58, rX0_left_60, psh_some, psh_none, bnd_r1, bnd_r0, b01_0, b01_1, lg_lt, lg_eq, lg_gt, lg_ge, lg_le, reduceIte, Bool.false_eq_true, and_true, true_and, and_false, false_and, not_true_eq_false, not_false_eq_true, eq_self, nI_add, nI_mul, nI_div, nI_irm, nI_subk, inb_ok, ix_ok, nI_lt_t, nI_lt_f, nI_le_t, nI_le_f, nI_eq_t, nI_eq_f, nI_z, ifb, ifbn, b01_bI, b01_n, Nat.reduceEqDiff, nl_l, nl_n, nl_i, nl_r, Bool.true_eq_false, reduceIte, if_true, if_false]
    rw [hv]
theorem x_isLess {m q : Nat} {A B : Nat → Bool} (hD : DK s w et em rt rm G) (hS : SB s) (hm : m < s 0 3) (hT : hT G q = 41) (hL : hL G q = 24) (hA : hJ G q (s 10 m) = wd A) (hB : hJ G q (s 11 m) = wd B) (hA2 : ∀ c, c < 64 → A c = true → isC s c = true) (hB2 : ∀ c, c < 64 → B c = true → isC s c = true) (hq : q ≠ rm m) (hd : 3 ≤ d) :
    cl d 39 [vr (some 3), vr (some (rm m)), vr (some q)] G = some (.inl (some (vi (bI (decide (¬ wd (styA (fw s m) A B) = wd A) || decide (¬ wd (styB (fw s m) (styA (fw s m) A B) B) = wd B))))), sJ (sJ G q (s 10 m) (wd (styA (fw s m) A B))) q (s 11 m) (wd (styB (fw s m) (styA (fw s m) A B) B))) := by
  have h0 := hS.1
  have hmm := hS.2.2.2.2.2.1 m hm
  have hme := dk_me hD hm
  have hmr := dk_mr hD hm
  have htg := me_tag hS hm hme
  obtain ⟨-, -, o3, o4, -, o6, o7, -⟩ := me_ok htg
  obtain ⟨-, -, -, -, -, a6, a7, a8, a9, a10, a11, a12, a13, -⟩ := hme
  have hl1 := x_left (d := d - 1) (G := G) (A := A) (B := B) (k := kpt s m) a10 a11 (fun c hc => (hmr c hc).1) (by omega)
  have e1 : wd (fun c => A c && anyC (fun e => kpt s m c e && B e)) = wd (styA (fw s m) A B) := wd_congr (styA_kf hA2 hB2)
  rw [e1] at hl1
  have hA3 : ∀ c, c < 64 → styA (fw s m) A B c = true → isC s c = true := fun c hc q => hA2 c hc (by unfold styA at q; rw [Bool.and_eq_true] at q; exact q.1)
  generalize styA (fw s m) A B = A' at hl1 hA3 ⊢
  have hl2 := x_left (d := d - 1) (G := G) (A := B) (B := A') (k := fun c e => kpt s m e c) a12 a13 (fun c hc => (hmr c hc).2) (by omega)
  have e2 : wd (fun c => B c && anyC (fun e => kpt s m e c && A' e)) = wd (styB (fw s m) A' B) := wd_congr (styB_kf hA3 hB2)
  rw [e2] at hl2
  generalize styB (fw s m) A' B = B' at hl2 ⊢
  rw [en39]
  by_cases z1 : wd A' = wd A
  · by_cases z2 : wd B' = wd B
    · rw [decide_eq_false (fun q => q z1), decide_eq_false (fun q => q z2)]
      simp (disch := omega) only [rX0_isLess_0, rX0_isLess_1, rX0_isLess_2, rX0_isLess_5, rX0_isLess_6, rX0_isLess_7, rX0_isLess_8, rX0_isLess_11, rX0_isLess_12, rX0_isLess_13, rX0_isLess_16, rX0_isLess_19, rX0_isLess_20, rX0_isLess_21, rX0_isLess_22, rX0_isLess_25, rX0_isLess_26, rX0_isLess_27, rX0_isLess_28, rX0_isLess_31, rX0_isLess_34, rX0_isLess_36, rX0_isLess_37, rX0_isLess_38, rX0_isLess_39, rX0_isLess_42, rX0_isLess_43, rX0_isLess_44, rX0_isLess_47, rX0_isLess_49, rX0_isLess_50, rX0_isLess_51, rX0_isLess_54, rX0_isLess_55, rX0_isLess_56, rX0_isLess_59, rX0_isLess_60, rX0_isLess_63, rX0_isLess_64, rX0_isLess_66, rX0_isLess_67, rX0_isLess_68, rX0_isLess_71, rX0_isLess_72, rX0_isLess_73, rX0_isLess_74, rX0_isLess_75, rX0_isLess_78, rX0_isLess_80, rX0_isLess_81, rX0_isLess_83, psh_some, psh_none, bnd_r1, bnd_r0, b01_0, b01_1, lg_lt, lg_eq, lg_gt, lg_ge, lg_le, reduceIte, Bool.false_eq_true, and_true, true_and, and_false, false_and, not_true_eq_false, not_false_eq_true, eq_self, nI_add, nI_mul, nI_div, nI_irm, nI_subk, inb_ok, ix_ok, nI_lt_t, nI_lt_f, nI_le_t, nI_le_f, nI_eq_t, nI_eq_f, nI_z, ifb, ifbn, b01_bI, b01_n, Nat.reduceEqDiff, nl_l, nl_n, nl_i, nl_r, Bool.true_eq_false, reduceIte, if_true, if_false, o3, o4, o6, o7, a6, a7, a8, a9, hT, hL, hA, hB, hl1, hl2, eq_true z1, eq_true z2, hI_sI, hJ_sI, hR_sI, hT_sI, hL_sI, hN_sI, hC_sI, hS_sI, hI_sJ, hJ_sJ, hR_sJ, hT_sJ, hL_sJ, hN_sJ, hC_sJ, hS_sJ, hI_sR, hJ_sR, hR_sR, hT_sR, hL_sR, hN_sR, hC_sR, hS_sR, hI_mkx, hJ_mkx, hR_mkx, hT_mkx, hL_mkx, hN_mkx, hC_mkx, hS_mkx, hI_cpI, hJ_cpI, hR_cpI, hT_cpI, hL_cpI, hN_cpI, hC_cpI, hS_cpI, hI_cpJ, hJ_cpJ, hR_cpJ, hT_cpJ, hL_cpJ, hN_cpJ, hC_cpJ, hS_cpJ, hI_cpR, hJ_cpR, hR_cpR, hT_cpR, hL_cpR, hN_cpR, hC_cpR, hS_cpR, nl_i, nl_r, nl_l, nl_n, hI_bmp, hJ_bmp, hR_bmp, hT_bmp, hL_bmp, hN_bmp, hC_bmp, hS_bmp]
      rfl
    · rw [decide_eq_false (fun q => q z1), decide_eq_true z2]
      simp (disch := omega) only [rX0_isLess_0, rX0_isLess_1, rX0_isLess_2, rX0_isLess_5, rX0_isLess_6, rX0_isLess_7, rX0_isLess_8, rX0_isLess_11, rX0_isLess_12, rX0_isLess_13, rX0_isLess_16, rX0_isLess_19, rX0_isLess_20, rX0_isLess_21, rX0_isLess_22, rX0_isLess_25, rX0_isLess_26, rX0_isLess_27, rX0_isLess_28, rX0_isLess_31, rX0_isLess_34, rX0_isLess_36, rX0_isLess_37, rX0_isLess_38, rX0_isLess_39, rX0_isLess_42, rX0_isLess_43, rX0_isLess_44, rX0_isLess_47, rX0_isLess_49, rX0_isLess_50, rX0_isLess_51, rX0_isLess_54, rX0_isLess_55, rX0_isLess_56, rX0_isLess_59, rX0_isLess_60, rX0_isLess_63, rX0_isLess_64, rX0_isLess_66, rX0_isLess_67, rX0_isLess_68, rX0_isLess_71, rX0_isLess_72, rX0_isLess_73, rX0_isLess_74, rX0_isLess_75, rX0_isLess_78, rX0_isLess_80, rX0_isLess_81, rX0_isLess_83, psh_some, psh_none, bnd_r1, bnd_r0, b01_0, b01_1, lg_lt, lg_eq, lg_gt, lg_ge, lg_le, reduceIte, Bool.false_eq_true, and_true, true_and, and_false, false_and, not_true_eq_false, not_false_eq_true, eq_self, nI_add, nI_mul, nI_div, nI_irm, nI_subk, inb_ok, ix_ok, nI_lt_t, nI_lt_f, nI_le_t, nI_le_f, nI_eq_t, nI_eq_f, nI_z, ifb, ifbn, b01_bI, b01_n, Nat.reduceEqDiff, nl_l, nl_n, nl_i, nl_r, Bool.true_eq_false, reduceIte, if_true, if_false, o3, o4, o6, o7, a6, a7, a8, a9, hT, hL, hA, hB, hl1, hl2, eq_true z1, eq_false z2, hI_sI, hJ_sI, hR_sI, hT_sI, hL_sI, hN_sI, hC_sI, hS_sI, hI_sJ, hJ_sJ, hR_sJ, hT_sJ, hL_sJ, hN_sJ, hC_sJ, hS_sJ, hI_sR, hJ_sR, hR_sR, hT_sR, hL_sR, hN_sR, hC_sR, hS_sR, hI_mkx, hJ_mkx, hR_mkx, hT_mkx, hL_mkx, hN_mkx, hC_mkx, hS_mkx, hI_cpI, hJ_cpI, hR_cpI, hT_cpI, hL_cpI, hN_cpI, hC_cpI, hS_cpI, hI_cpJ, hJ_cpJ, hR_cpJ, hT_cpJ, hL_cpJ, hN_cpJ, hC_cpJ, hS_cpJ, hI_cpR, hJ_cpR, hR_cpR, hT_cpR, hL_cpR, hN_cpR, hC_cpR, hS_cpR, nl_i, nl_r, nl_l, nl_n, hI_bmp, hJ_bmp, hR_bmp, hT_bmp, hL_bmp, hN_bmp, hC_bmp, hS_bmp]
      rfl
  · rw [decide_eq_true z1]
    simp (disch := omega) only [rX0_isLess_0, rX0_isLess_1, rX0_isLess_2, rX0_isLess_5, rX0_isLess_6, rX0_isLess_7, rX0_isLess_8, rX0_isLess_11, rX0_isLess_12, rX0_isLess_13, rX0_isLess_16, rX0_isLess_19, rX0_isLess_20, rX0_isLess_21, rX0_isLess_22, rX0_isLess_25, rX0_isLess_26, rX0_isLess_27, rX0_isLess_28, rX0_isLess_31, rX0_isLess_34, rX0_isLess_36, rX0_isLess_37, rX0_isLess_38, rX0_isLess_39, rX0_isLess_42, rX0_isLess_43, rX0_isLess_44, rX0_isLess_47, rX0_isLess_49, rX0_isLess_50, rX0_isLess_51, rX0_isLess_54, rX0_isLess_55, rX0_isLess_56, rX0_isLess_59, rX0_isLess_60, rX0_isLess_63, rX0_isLess_64, rX0_isLess_66, rX0_isLess_67, rX0_isLess_68, rX0_isLess_71, rX0_isLess_72, rX0_isLess_73, rX0_isLess_74, rX0_isLess_75, rX0_isLess_78, rX0_isLess_80, rX0_isLess_81, rX0_isLess_83, psh_some, psh_none, bnd_r1, bnd_r0, b01_0, b01_1, lg_lt, lg_eq, lg_gt, lg_ge, lg_le, reduceIte, Bool.false_eq_true, and_true, true_and, and_false, false_and, not_true_eq_false, not_false_eq_true, eq_self, nI_add, nI_mul, nI_div, nI_irm, nI_subk, inb_ok, ix_ok, nI_lt_t, nI_lt_f, nI_le_t, nI_le_f, nI_eq_t, nI_eq_f, nI_z, ifb, ifbn, b01_bI, b01_n, Nat.reduceEqDiff, nl_l, nl_n, nl_i, nl_r, Bool.true_eq_false, reduceIte, if_true, if_false, o3, o4, o6, o7, a6, a7, a8, a9, hT, hL, hA, hB, hl1, hl2, eq_false z1, hI_sI, hJ_sI, hR_sI, hT_sI, hL_sI, hN_sI, hC_sI, hS_sI, hI_sJ, hJ_sJ, hR_sJ, hT_sJ, hL_sJ, hN_sJ, hC_sJ, hS_sJ, hI_sR, hJ_sR, hR_sR, hT_sR, hL_sR, hN_sR, hC_sR, hS_sR, hI_mkx, hJ_mkx, hR_mkx, hT_mkx, hL_mkx, hN_mkx, hC_mkx, hS_mkx, hI_cpI, hJ_cpI, hR_cpI, hT_cpI, hL_cpI, hN_cpI, hC_cpI, hS_cpI, hI_cpJ, hJ_cpJ, hR_cpJ, hT_cpJ, hL_cpJ, hN_cpJ, hC_cpJ, hS_cpJ, hI_cpR, hJ_cpR, hR_cpR, hT_cpR, hL_cpR, hN_cpR, hC_cpR, hS_cpR, nl_i, nl_r, nl_l, nl_n, hI_bmp, hJ_bmp, hR_bmp, hT_bmp, hL_bmp, hN_bmp, hC_bmp, hS_bmp]
    rfl
theorem x_askAll (hD : DK s w et em rt rm G) (hS : SB s) (hd : 3 ≤ d) : ∃ G', cl d 37 [vr (some 3)] G = some (.inl none, G') ∧ Sx [9] [] G G' ∧ ∀ m, m < s 0 3 → hI G' 9 m = bI (onU s m) := by
  have h0 := hS.1
  rw [en37]
  simp (disch := omega) only [rX0_askAll_0, rX0_askAll_1, psh_some, psh_none, bnd_r1, bnd_r0, b01_0, b01_1, lg_lt, lg_eq, lg_gt, lg_ge, lg_le, reduceIte, Bool.false_eq_true, and_true, true_and, and_false, false_and, not_true_eq_false, not_false_eq_true, eq_self, nI_add, nI_mul, nI_div, nI_irm, nI_subk, inb_ok, ix_ok, nI_lt_t, nI_lt_f, nI_le_t, nI_le_f, nI_eq_t, nI_eq_f, nI_z, ifb, ifbn, b01_bI, b01_n, Nat.reduceEqDiff, nl_l, nl_n, nl_i, nl_r, Bool.true_eq_false, reduceIte, if_true, if_false]
  refine lpQ (P := fun m (H : AH) => At d 37 2 [some (vr (some 3)), some (vi (nI m))] [] H) (Q := fun q => ∃ G', q = some (.inl none, G') ∧ Sx [9] [] G G' ∧ ∀ m, m < s 0 3 → hI G' 9 m = bI (onU s m)) (fun m H => Sx [9] [] G H ∧ ∀ j, j < m → hI H 9 j = bI (onU s j)) (s 0 3) ?_ ?_ (Nat.zero_le _) (s := G) ⟨Sx.refl G, fun j hj => absurd hj (by omega)⟩
  · rintro m H hm ⟨a0, a1⟩ ih
    have hDH := hD.sx a0 (by decide)
    have hX := hDH.1
    have hsz := c_size (d := d - 1) (dk_M hDH)
    have hT6 := (dk_M hDH).1
    have hg := x_getM (d := d - 1) hDH hm (by omega)
    have hme := dk_me hDH hm
    have htg := me_tag hS hm hme
    have hok := (me_ok htg).2.2.2.2.1
    have hon := dk_on hDH hm
    have hmm := hS.2.2.2.2.2.1 m hm
    have hb : bI (onU s m) = nI (s 14 m) := by unfold onU; rcases (show s 14 m = 0 ∨ s 14 m = 1 by omega) with q | q <;> rw [q] <;> rfl
    have hnx : ∃ G', At d 37 2 [some (vr (some 3)), some (vi (nI (m + 1)))] [] (sI H 9 m (nI (s 14 m))) = some (.inl none, G') ∧ Sx [9] [] G G' ∧ ∀ m, m < s 0 3 → hI G' 9 m = bI (onU s m) := by
      refine ih (sI H 9 m (nI (s 14 m))) ⟨a0.trans (Sx.sI (Or.inl (by decide))), fun j hj => ?_⟩
      rw [hI_sI]
      by_cases e : j = m
      · rw [e, if_pos ⟨rfl, rfl⟩, hb]
      · rw [if_neg (by omega)]; exact a1 j (by omega)
    rw [rX0_askAll_2]
    rcases (show s 14 m = 0 ∨ s 14 m = 1 by omega) with q | q
    · rw [q] at hon hnx
      simp (disch := first | omega | assumption) only [rX0_askAll_3, rX0_askAll_4, rX0_askAll_7, rX0_askAll_12, rX0_askAll_15, rX0_askAll_16, rX0_askAll_19, rX0_askAll_20, rX0_askAll_21, rX0_askAll_24, rX0_askAll_25, rX0_askAll_30, rX0_askAll_30_n, rX0_askAll_33, rX0_askAll_36, rX0_askAll_37, rX0_askAll_40, psh_some, psh_none, bnd_r1, bnd_r0, b01_0, b01_1, lg_lt, lg_eq, lg_gt, lg_ge, lg_le, reduceIte, Bool.false_eq_true, and_true, true_and, and_false, false_and, not_true_eq_false, not_false_eq_true, eq_self, nI_add, nI_mul, nI_div, nI_irm, nI_subk, inb_ok, ix_ok, nI_lt_t, nI_lt_f, nI_le_t, nI_le_f, nI_eq_t, nI_eq_f, nI_z, ifb, ifbn, b01_bI, b01_n, Nat.reduceEqDiff, nl_l, nl_n, nl_i, nl_r, Bool.true_eq_false, reduceIte, if_true, if_false, ok0_0, ok0_1, ok0_2, ok0_3, ok0_4, ok0_5, ok0_6, ok0_7, ok0_8, ok0_9, ok0_10, ok0_11, ok0_12, ok0_13, ok0_14, ok0_15, ok0_16, ok0_17, ok0_18, ok0_19, ok0_20, ok0_21, ok0_22, ok0_23, ok0_24, ok0_25, ok0_26, ok0_27, ok0_28, ok0_29, ok0_30, ok0_31, ok0_32, ok0_33, ok0_34, ok0_35, ok0_36, ok0_37, ok0_38, ok0_39, ok0_40, ok0_41, ok0_42, ok0_43, ok0_44, ok0_45, ok0_46, ok0_47, ok0_48, ok0_49, ok0_50, ok0_51, ok0_52, ok0_53, ok0_54, ok1_141, ok2_55, ok2_56, ok2_57, ok2_58, ok2_59, ok2_60, ok2_61, ok2_62, ok2_63, ok2_64, ok2_65, ok2_66, ok2_67, ok2_68, ok2_69, ok2_70, ok2_71, ok2_72, ok2_73, ok2_74, ok2_75, ok2_76, ok2_77, ok2_78, ok2_79, ok2_80, ok2_81, ok2_82, ok2_83, ok2_84, ok2_85, ok2_86, ok2_87, ok2_88, ok2_89, ok2_90, ok2_91, ok2_92, ok2_93, ok2_94, ok2_95, ok2_96, ok2_97, ok2_98, ok2_99, ok2_100, ok2_101, ok2_102, ok2_103, ok2_104, ok2_105, ok2_106, ok2_107, ok2_108, ok2_109, ok2_110, ok2_111, ok2_112, ok2_113, ok2_114, ok2_115, ok2_116, ok2_117, ok2_118, ok2_119, ok2_120, ok2_121, ok2_122, ok2_123, ok2_124, ok2_125, ok2_126, ok2_127, ok2_128, ok2_129, ok2_130, ok2_131, ok2_132, ok2_133, ok2_134, ok2_135, ok2_136, ok2_137, ok3_171, ok3_172, ok3_173, ok3_174, ok3_175, ok3_176, ok4_171, ok4_172, ok4_173, ok4_174, ok4_175, ok4_176, ok4_177, ok4_178, ok5_171, ok5_172, ok5_173, ok5_174, ok5_175, ok5_176, ok5_177, ok5_178, ok5_179, ok7_142, ok7_143, ok7_144, ok7_145, ok7_146, ok7_147, ok7_148, ok7_149, ok7_152, ok7_153, ok7_154, ok8_142, ok8_143, ok8_144, ok8_145, ok8_146, ok8_147, ok8_148, ok8_149, ok8_152, ok8_153, ok8_154, ok8_155, ok9_142, ok9_143, ok9_144, ok9_145, ok9_146, ok9_147, ok9_148, ok9_149, ok9_152, ok9_153, ok9_154, ok9_155, ok9_180, ok10_142, ok10_143, ok10_144, ok10_145, ok10_146, ok10_147, ok10_148, ok10_149, ok10_150, ok10_151, ok11_142, ok11_143, ok11_144, ok11_145, ok11_146, ok11_147, ok11_148, ok11_149, ok11_152, ok11_153, ok11_154, ok11_155, ok11_156, ok11_157, ok13_158, ok13_159, ok13_160, ok13_161, ok13_162, ok13_163, ok13_164, ok13_165, ok13_166, ok13_167, ok13_168, ok13_169, ok13_170, ok16_138, ok16_139, ok16_140, ct_a, ct_a5, ct_b, ct_c, ct_d, ct_r50, ct_r51, ct_r52, ct_r53, ct_r54, xs_T, xsR_5, xsT_4, xsL_4, xsR_6, xsT_5, xsL_5, xsR_7, xsT_6, xsL_6, xsR_8, xsT_7, xsL_7, xsR_9, xsT_8, xsL_8, xsR_10, xsT_9, xsL_9, xsR_14, xsT_10, xsL_10, xsR_17, xsT_11, xsL_11, xsR_18, xsT_12, xsL_12, xsR_24, xsT_13, xsL_13, xsR_25, xsT_14, xsL_14, xsR_26, xsT_24, xsL_24, xsR_28, xsT_106, xsL_106, xsR_34, xsT_107, xsL_107, xsR_41, xsT_108, xsL_108, xsR_42, xsT_109, xsL_109, xsR_43, xsT_110, xsL_110, xsR_44, xsT_111, xsL_111, xsR_46, xsT_112, xsL_112, xsR_52, xsT_121, xsL_121, xsR_53, xsT_122, xsL_122, xsR_54, xsT_131, xsL_131, hX, hT6, hsz, hg, htg, hok, hon]
      exact hnx
    · rw [q] at hon hnx
      simp (disch := first | omega | assumption) only [rX0_askAll_3, rX0_askAll_4, rX0_askAll_7, rX0_askAll_12, rX0_askAll_15, rX0_askAll_16, rX0_askAll_19, rX0_askAll_20, rX0_askAll_21, rX0_askAll_24, rX0_askAll_25, rX0_askAll_30, rX0_askAll_30_n, rX0_askAll_33, rX0_askAll_36, rX0_askAll_37, rX0_askAll_40, psh_some, psh_none, bnd_r1, bnd_r0, b01_0, b01_1, lg_lt, lg_eq, lg_gt, lg_ge, lg_le, reduceIte, Bool.false_eq_true, and_true, true_and, and_false, false_and, not_true_eq_false, not_false_eq_true, eq_self, nI_add, nI_mul, nI_div, nI_irm, nI_subk, inb_ok, ix_ok, nI_lt_t, nI_lt_f, nI_le_t, nI_le_f, nI_eq_t, nI_eq_f, nI_z, ifb, ifbn, b01_bI, b01_n, Nat.reduceEqDiff, nl_l, nl_n, nl_i, nl_r, Bool.true_eq_false, reduceIte, if_true, if_false, ok0_0, ok0_1, ok0_2, ok0_3, ok0_4, ok0_5, ok0_6, ok0_7, ok0_8, ok0_9, ok0_10, ok0_11, ok0_12, ok0_13, ok0_14, ok0_15, ok0_16, ok0_17, ok0_18, ok0_19, ok0_20, ok0_21, ok0_22, ok0_23, ok0_24, ok0_25, ok0_26, ok0_27, ok0_28, ok0_29, ok0_30, ok0_31, ok0_32, ok0_33, ok0_34, ok0_35, ok0_36, ok0_37, ok0_38, ok0_39, ok0_40, ok0_41, ok0_42, ok0_43, ok0_44, ok0_45, ok0_46, ok0_47, ok0_48, ok0_49, ok0_50, ok0_51, ok0_52, ok0_53, ok0_54, ok1_141, ok2_55, ok2_56, ok2_57, ok2_58, ok2_59, ok2_60, ok2_61, ok2_62, ok2_63, ok2_64, ok2_65, ok2_66, ok2_67, ok2_68, ok2_69, ok2_70, ok2_71, ok2_72, ok2_73, ok2_74, ok2_75, ok2_76, ok2_77, ok2_78, ok2_79, ok2_80, ok2_81, ok2_82, ok2_83, ok2_84, ok2_85, ok2_86, ok2_87, ok2_88, ok2_89, ok2_90, ok2_91, ok2_92, ok2_93, ok2_94, ok2_95, ok2_96, ok2_97, ok2_98, ok2_99, ok2_100, ok2_101, ok2_102, ok2_103, ok2_104, ok2_105, ok2_106, ok2_107, ok2_108, ok2_109, ok2_110, ok2_111, ok2_112, ok2_113, ok2_114, ok2_115, ok2_116, ok2_117, ok2_118, ok2_119, ok2_120, ok2_121, ok2_122, ok2_123, ok2_124, ok2_125, ok2_126, ok2_127, ok2_128, ok2_129, ok2_130, ok2_131, ok2_132, ok2_133, ok2_134, ok2_135, ok2_136, ok2_137, ok3_171, ok3_172, ok3_173, ok3_174, ok3_175, ok3_176, ok4_171, ok4_172, ok4_173, ok4_174, ok4_175, ok4_176, ok4_177, ok4_178, ok5_171, ok5_172, ok5_173, ok5_174, ok5_175, ok5_176, ok5_177, ok5_178, ok5_179, ok7_142, ok7_143, ok7_144, ok7_145, ok7_146, ok7_147, ok7_148, ok7_149, ok7_152, ok7_153, ok7_154, ok8_142, ok8_143, ok8_144, ok8_145, ok8_146, ok8_147, ok8_148, ok8_149, ok8_152, ok8_153, ok8_154, ok8_155, ok9_142, ok9_143, ok9_144, ok9_145, ok9_146, ok9_147, ok9_148, ok9_149, ok9_152, ok9_153, ok9_154, ok9_155, ok9_180, ok10_142, ok10_143, ok10_144, ok10_145, ok10_146, ok10_147, ok10_148, ok10_149, ok10_150, ok10_151, ok11_142, ok11_143, ok11_144, ok11_145, ok11_146, ok11_147, ok11_148, ok11_149, ok11_152, ok11_153, ok11_154, ok11_155, ok11_156, ok11_157, ok13_158, ok13_159, ok13_160, ok13_161, ok13_162, ok13_163, ok13_164, ok13_165, ok13_166, ok13_167, ok13_168, ok13_169, ok13_170, ok16_138, ok16_139, ok16_140, ct_a, ct_a5, ct_b, ct_c, ct_d, ct_r50, ct_r51, ct_r52, ct_r53, ct_r54, xs_T, xsR_5, xsT_4, xsL_4, xsR_6, xsT_5, xsL_5, xsR_7, xsT_6, xsL_6, xsR_8, xsT_7, xsL_7, xsR_9, xsT_8, xsL_8, xsR_10, xsT_9, xsL_9, xsR_14, xsT_10, xsL_10, xsR_17, xsT_11, xsL_11, xsR_18, xsT_12, xsL_12, xsR_24, xsT_13, xsL_13, xsR_25, xsT_14, xsL_14, xsR_26, xsT_24, xsL_24, xsR_28, xsT_106, xsL_106, xsR_34, xsT_107, xsL_107, xsR_41, xsT_108, xsL_108, xsR_42, xsT_109, xsL_109, xsR_43, xsT_110, xsL_110, xsR_44, xsT_111, xsL_111, xsR_46, xsT_112, xsL_112, xsR_52, xsT_121, xsL_121, xsR_53, xsT_122, xsL_122, xsR_54, xsT_131, xsL_131, hX, hT6, hsz, hg, htg, hok, hon]
      exact hnx
  · rintro H ⟨a0, a1⟩
    have hDH := hD.sx a0 (by decide)
    have hX := hDH.1
    have hsz := c_size (d := d - 1) (dk_M hDH)
    have hT6 := (dk_M hDH).1
    rw [rX0_askAll_2]
    simp (disch := omega) only [rX0_askAll_3, rX0_askAll_4, rX0_askAll_7, rX0_askAll_12, rX0_askAll_43, psh_some, psh_none, bnd_r1, bnd_r0, b01_0, b01_1, lg_lt, lg_eq, lg_gt, lg_ge, lg_le, reduceIte, Bool.false_eq_true, and_true, true_and, and_false, false_and, not_true_eq_false, not_false_eq_true, eq_self, nI_add, nI_mul, nI_div, nI_irm, nI_subk, inb_ok, ix_ok, nI_lt_t, nI_lt_f, nI_le_t, nI_le_f, nI_eq_t, nI_eq_f, nI_z, ifb, ifbn, b01_bI, b01_n, Nat.reduceEqDiff, nl_l, nl_n, nl_i, nl_r, Bool.true_eq_false, reduceIte, if_true, if_false, ok0_0, ok0_1, ok0_2, ok0_3, ok0_4, ok0_5, ok0_6, ok0_7, ok0_8, ok0_9, ok0_10, ok0_11, ok0_12, ok0_13, ok0_14, ok0_15, ok0_16, ok0_17, ok0_18, ok0_19, ok0_20, ok0_21, ok0_22, ok0_23, ok0_24, ok0_25, ok0_26, ok0_27, ok0_28, ok0_29, ok0_30, ok0_31, ok0_32, ok0_33, ok0_34, ok0_35, ok0_36, ok0_37, ok0_38, ok0_39, ok0_40, ok0_41, ok0_42, ok0_43, ok0_44, ok0_45, ok0_46, ok0_47, ok0_48, ok0_49, ok0_50, ok0_51, ok0_52, ok0_53, ok0_54, ok1_141, ok2_55, ok2_56, ok2_57, ok2_58, ok2_59, ok2_60, ok2_61, ok2_62, ok2_63, ok2_64, ok2_65, ok2_66, ok2_67, ok2_68, ok2_69, ok2_70, ok2_71, ok2_72, ok2_73, ok2_74, ok2_75, ok2_76, ok2_77, ok2_78, ok2_79, ok2_80, ok2_81, ok2_82, ok2_83, ok2_84, ok2_85, ok2_86, ok2_87, ok2_88, ok2_89, ok2_90, ok2_91, ok2_92, ok2_93, ok2_94, ok2_95, ok2_96, ok2_97, ok2_98, ok2_99, ok2_100, ok2_101, ok2_102, ok2_103, ok2_104, ok2_105, ok2_106, ok2_107, ok2_108, ok2_109, ok2_110, ok2_111, ok2_112, ok2_113, ok2_114, ok2_115, ok2_116, ok2_117, ok2_118, ok2_119, ok2_120, ok2_121, ok2_122, ok2_123, ok2_124, ok2_125, ok2_126, ok2_127, ok2_128, ok2_129, ok2_130, ok2_131, ok2_132, ok2_133, ok2_134, ok2_135, ok2_136, ok2_137, ok3_171, ok3_172, ok3_173, ok3_174, ok3_175, ok3_176, ok4_171, ok4_172, ok4_173, ok4_174, ok4_175, ok4_176, ok4_177, ok4_178, ok5_171, ok5_172, ok5_173, ok5_174, ok5_175, ok5_176, ok5_177, ok5_178, ok5_179, ok7_142, ok7_143, ok7_144, ok7_145, ok7_146, ok7_147, ok7_148, ok7_149, ok7_152, ok7_153, ok7_154, ok8_142, ok8_143, ok8_144, ok8_145, ok8_146, ok8_147, ok8_148, ok8_149, ok8_152, ok8_153, ok8_154, ok8_155, ok9_142, ok9_143, ok9_144, ok9_145, ok9_146, ok9_147, ok9_148, ok9_149, ok9_152, ok9_153, ok9_154, ok9_155, ok9_180, ok10_142, ok10_143, ok10_144, ok10_145, ok10_146, ok10_147, ok10_148, ok10_149, ok10_150, ok10_151, ok11_142, ok11_143, ok11_144, ok11_145, ok11_146, ok11_147, ok11_148, ok11_149, ok11_152, ok11_153, ok11_154, ok11_155, ok11_156, ok11_157, ok13_158, ok13_159, ok13_160, ok13_161, ok13_162, ok13_163, ok13_164, ok13_165, ok13_166, ok13_167, ok13_168, ok13_169, ok13_170, ok16_138, ok16_139, ok16_140, ct_a, ct_a5, ct_b, ct_c, ct_d, ct_r50, ct_r51, ct_r52, ct_r53, ct_r54, xs_T, xsR_5, xsT_4, xsL_4, xsR_6, xsT_5, xsL_5, xsR_7, xsT_6, xsL_6, xsR_8, xsT_7, xsL_7, xsR_9, xsT_8, xsL_8, xsR_10, xsT_9, xsL_9, xsR_14, xsT_10, xsL_10, xsR_17, xsT_11, xsL_11, xsR_18, xsT_12, xsL_12, xsR_24, xsT_13, xsL_13, xsR_25, xsT_14, xsL_14, xsR_26, xsT_24, xsL_24, xsR_28, xsT_106, xsL_106, xsR_34, xsT_107, xsL_107, xsR_41, xsT_108, xsL_108, xsR_42, xsT_109, xsL_109, xsR_43, xsT_110, xsL_110, xsR_44, xsT_111, xsL_111, xsR_46, xsT_112, xsL_112, xsR_52, xsT_121, xsL_121, xsR_53, xsT_122, xsL_122, xsR_54, xsT_131, xsL_131, hX, hT6, hsz]
    exact ⟨H, rfl, a0, a1⟩
set_option maxHeartbeats 4000000 in
theorem x_settle {q : Nat} {U : Nat → Bool} (hq : q = 7 ∨ q = 8) (hD : DK s w et em rt rm G) (hS : SB s) (hU : ∀ m, m < s 0 3 → hI G 9 m = bI (U m)) (hd : 6 ≤ d) :
    ∃ G', cl d 38 [vr (some 3), vr (some q)] G = some (.inl none, G') ∧ Sx [q] [] G G' ∧ ∀ t, t < s 0 2 → hJ G' q t = wd (nar s U t) := by
  have h0 := hS.1
  have hab : ∀ m, m < s 0 3 → s 10 m < s 0 2 ∧ s 11 m < s 0 2 ∧ s 10 m ≠ s 11 m := fun m hm => ⟨(hS.2.2.2.2.2.1 m hm).2.1, (hS.2.2.2.2.2.1 m hm).2.2.1, (hS.2.2.2.2.2.1 m hm).2.2.2.1⟩
  have hoff : offX [q] [] = true := by rcases hq with rfl | rfl <;> decide
  have hq136 : q < 136 ∧ q ≠ 9 := by rcases hq with rfl | rfl <;> decide
  have hqt : ∀ H, XS H → hT H q = 41 ∧ hL H q = 24 := fun H hX => by
    rcases hq with rfl | rfl
    · simp (disch := omega) only [xs_T, xsR_5, xsT_4, xsL_4, xsR_6, xsT_5, xsL_5, xsR_7, xsT_6, xsL_6, xsR_8, xsT_7, xsL_7, xsR_9, xsT_8, xsL_8, xsR_10, xsT_9, xsL_9, xsR_14, xsT_10, xsL_10, xsR_17, xsT_11, xsL_11, xsR_18, xsT_12, xsL_12, xsR_24, xsT_13, xsL_13, xsR_25, xsT_14, xsL_14, xsR_26, xsT_24, xsL_24, xsR_28, xsT_106, xsL_106, xsR_34, xsT_107, xsL_107, xsR_41, xsT_108, xsL_108, xsR_42, xsT_109, xsL_109, xsR_43, xsT_110, xsL_110, xsR_44, xsT_111, xsL_111, xsR_46, xsT_112, xsL_112, xsR_52, xsT_121, xsL_121, xsR_53, xsT_122, xsL_122, xsR_54, xsT_131, xsL_131, hX]; exact ⟨trivial, trivial⟩
    · simp (disch := omega) only [xs_T, xsR_5, xsT_4, xsL_4, xsR_6, xsT_5, xsL_5, xsR_7, xsT_6, xsL_6, xsR_8, xsT_7, xsL_7, xsR_9, xsT_8, xsL_8, xsR_10, xsT_9, xsL_9, xsR_14, xsT_10, xsL_10, xsR_17, xsT_11, xsL_11, xsR_18, xsT_12, xsL_12, xsR_24, xsT_13, xsL_13, xsR_25, xsT_14, xsL_14, xsR_26, xsT_24, xsL_24, xsR_28, xsT_106, xsL_106, xsR_34, xsT_107, xsL_107, xsR_41, xsT_108, xsL_108, xsR_42, xsT_109, xsL_109, xsR_43, xsT_110, xsL_110, xsR_44, xsT_111, xsL_111, xsR_46, xsT_112, xsL_112, xsR_52, xsT_121, xsL_121, xsR_53, xsT_122, xsL_122, xsR_54, xsT_131, xsL_131, hX]; exact ⟨trivial, trivial⟩
  rw [en38]
  simp (disch := omega) only [rX0_settle_0, rX0_settle_1, psh_some, psh_none, bnd_r1, bnd_r0, b01_0, b01_1, lg_lt, lg_eq, lg_gt, lg_ge, lg_le, reduceIte, Bool.false_eq_true, and_true, true_and, and_false, false_and, not_true_eq_false, not_false_eq_true, eq_self, nI_add, nI_mul, nI_div, nI_irm, nI_subk, inb_ok, ix_ok, nI_lt_t, nI_lt_f, nI_le_t, nI_le_f, nI_eq_t, nI_eq_f, nI_z, ifb, ifbn, b01_bI, b01_n, Nat.reduceEqDiff, nl_l, nl_n, nl_i, nl_r, Bool.true_eq_false, reduceIte, if_true, if_false]
  refine lpQ (P := fun i H => At d 38 2 [some (vr (some 3)), some (vr (some q)), some (vi (nI i)), none] [] H) (Q := fun r => ∃ G', r = some (.inl none, G') ∧ Sx [q] [] G G' ∧ ∀ t, t < s 0 2 → hJ G' q t = wd (nar s U t)) (fun i H => Sx [q] [] G H ∧ ∀ t, t < i → hJ H q t = wd (told s t)) (s 0 2) ?_ ?_ (Nat.zero_le _) ⟨Sx.refl G, fun t h => absurd h (by omega)⟩
  · rintro i H hi ⟨a1, a2⟩ ih
    have hDH := hD.sx a1 hoff
    have hX := hDH.1
    obtain ⟨hqT, hqL⟩ := hqt H hX
    have hsz := c_size (d := d - 1) (dk_T hDH)
    have hT5 := (dk_T hDH).1
    have hg := x_getT (d := d - 1) hDH hi (by omega)
    have htg := th_tag hS hi (dk_th hDH hi)
    have htl := x_told (d := d - 1) hDH hS hi (by omega)
    rw [rX0_settle_2]
    simp (disch := first | omega | assumption) only [rX0_settle_3, rX0_settle_4, rX0_settle_7, rX0_settle_12, rX0_settle_15, rX0_settle_16, rX0_settle_17, rX0_settle_18, rX0_settle_21, rX0_settle_22, rX0_settle_27, rX0_settle_27_n, rX0_settle_30_v, rX0_settle_33, rX0_settle_34, rX0_settle_37, psh_some, psh_none, bnd_r1, bnd_r0, b01_0, b01_1, lg_lt, lg_eq, lg_gt, lg_ge, lg_le, reduceIte, Bool.false_eq_true, and_true, true_and, and_false, false_and, not_true_eq_false, not_false_eq_true, eq_self, nI_add, nI_mul, nI_div, nI_irm, nI_subk, inb_ok, ix_ok, nI_lt_t, nI_lt_f, nI_le_t, nI_le_f, nI_eq_t, nI_eq_f, nI_z, ifb, ifbn, b01_bI, b01_n, Nat.reduceEqDiff, nl_l, nl_n, nl_i, nl_r, Bool.true_eq_false, reduceIte, if_true, if_false, ok0_0, ok0_1, ok0_2, ok0_3, ok0_4, ok0_5, ok0_6, ok0_7, ok0_8, ok0_9, ok0_10, ok0_11, ok0_12, ok0_13, ok0_14, ok0_15, ok0_16, ok0_17, ok0_18, ok0_19, ok0_20, ok0_21, ok0_22, ok0_23, ok0_24, ok0_25, ok0_26, ok0_27, ok0_28, ok0_29, ok0_30, ok0_31, ok0_32, ok0_33, ok0_34, ok0_35, ok0_36, ok0_37, ok0_38, ok0_39, ok0_40, ok0_41, ok0_42, ok0_43, ok0_44, ok0_45, ok0_46, ok0_47, ok0_48, ok0_49, ok0_50, ok0_51, ok0_52, ok0_53, ok0_54, ok1_141, ok2_55, ok2_56, ok2_57, ok2_58, ok2_59, ok2_60, ok2_61, ok2_62, ok2_63, ok2_64, ok2_65, ok2_66, ok2_67, ok2_68, ok2_69, ok2_70, ok2_71, ok2_72, ok2_73, ok2_74, ok2_75, ok2_76, ok2_77, ok2_78, ok2_79, ok2_80, ok2_81, ok2_82, ok2_83, ok2_84, ok2_85, ok2_86, ok2_87, ok2_88, ok2_89, ok2_90, ok2_91, ok2_92, ok2_93, ok2_94, ok2_95, ok2_96, ok2_97, ok2_98, ok2_99, ok2_100, ok2_101, ok2_102, ok2_103, ok2_104, ok2_105, ok2_106, ok2_107, ok2_108, ok2_109, ok2_110, ok2_111, ok2_112, ok2_113, ok2_114, ok2_115, ok2_116, ok2_117, ok2_118, ok2_119, ok2_120, ok2_121, ok2_122, ok2_123, ok2_124, ok2_125, ok2_126, ok2_127, ok2_128, ok2_129, ok2_130, ok2_131, ok2_132, ok2_133, ok2_134, ok2_135, ok2_136, ok2_137, ok3_171, ok3_172, ok3_173, ok3_174, ok3_175, ok3_176, ok4_171, ok4_172, ok4_173, ok4_174, ok4_175, ok4_176, ok4_177, ok4_178, ok5_171, ok5_172, ok5_173, ok5_174, ok5_175, ok5_176, ok5_177, ok5_178, ok5_179, ok7_142, ok7_143, ok7_144, ok7_145, ok7_146, ok7_147, ok7_148, ok7_149, ok7_152, ok7_153, ok7_154, ok8_142, ok8_143, ok8_144, ok8_145, ok8_146, ok8_147, ok8_148, ok8_149, ok8_152, ok8_153, ok8_154, ok8_155, ok9_142, ok9_143, ok9_144, ok9_145, ok9_146, ok9_147, ok9_148, ok9_149, ok9_152, ok9_153, ok9_154, ok9_155, ok9_180, ok10_142, ok10_143, ok10_144, ok10_145, ok10_146, ok10_147, ok10_148, ok10_149, ok10_150, ok10_151, ok11_142, ok11_143, ok11_144, ok11_145, ok11_146, ok11_147, ok11_148, ok11_149, ok11_152, ok11_153, ok11_154, ok11_155, ok11_156, ok11_157, ok13_158, ok13_159, ok13_160, ok13_161, ok13_162, ok13_163, ok13_164, ok13_165, ok13_166, ok13_167, ok13_168, ok13_169, ok13_170, ok16_138, ok16_139, ok16_140, ct_a, ct_a5, ct_b, ct_c, ct_d, ct_r50, ct_r51, ct_r52, ct_r53, ct_r54, xs_T, xsR_5, xsT_4, xsL_4, xsR_6, xsT_5, xsL_5, xsR_7, xsT_6, xsL_6, xsR_8, xsT_7, xsL_7, xsR_9, xsT_8, xsL_8, xsR_10, xsT_9, xsL_9, xsR_14, xsT_10, xsL_10, xsR_17, xsT_11, xsL_11, xsR_18, xsT_12, xsL_12, xsR_24, xsT_13, xsL_13, xsR_25, xsT_14, xsL_14, xsR_26, xsT_24, xsL_24, xsR_28, xsT_106, xsL_106, xsR_34, xsT_107, xsL_107, xsR_41, xsT_108, xsL_108, xsR_42, xsT_109, xsL_109, xsR_43, xsT_110, xsL_110, xsR_44, xsT_111, xsL_111, xsR_46, xsT_112, xsL_112, xsR_52, xsT_121, xsL_121, xsR_53, xsT_122, xsL_122, xsR_54, xsT_131, xsL_131, hX, hT5, hsz, hg, htg, htl, hqT, hqL]
    refine ih (sJ H q i (wd (told s i))) ⟨a1.trans (Sx.sJ (Or.inl (List.mem_singleton.mpr rfl))), fun t ht => ?_⟩
    rw [hJ_sJ]
    by_cases z : t = i
    · subst z; rw [if_pos ⟨rfl, rfl⟩]
    · rw [if_neg (fun r => z r.2)]; exact a2 t (by omega)
  · rintro H ⟨a1, a2⟩
    have hDH := hD.sx a1 hoff
    have hX := hDH.1
    have hsz := c_size (d := d - 1) (dk_T hDH)
    have hT5 := (dk_T hDH).1
    rw [rX0_settle_2]
    simp (disch := omega) only [rX0_settle_3, rX0_settle_4, rX0_settle_7, rX0_settle_12, rX0_settle_40, rX0_settle_41, psh_some, psh_none, bnd_r1, bnd_r0, b01_0, b01_1, lg_lt, lg_eq, lg_gt, lg_ge, lg_le, reduceIte, Bool.false_eq_true, and_true, true_and, and_false, false_and, not_true_eq_false, not_false_eq_true, eq_self, nI_add, nI_mul, nI_div, nI_irm, nI_subk, inb_ok, ix_ok, nI_lt_t, nI_lt_f, nI_le_t, nI_le_f, nI_eq_t, nI_eq_f, nI_z, ifb, ifbn, b01_bI, b01_n, Nat.reduceEqDiff, nl_l, nl_n, nl_i, nl_r, Bool.true_eq_false, reduceIte, if_true, if_false, ok0_0, ok0_1, ok0_2, ok0_3, ok0_4, ok0_5, ok0_6, ok0_7, ok0_8, ok0_9, ok0_10, ok0_11, ok0_12, ok0_13, ok0_14, ok0_15, ok0_16, ok0_17, ok0_18, ok0_19, ok0_20, ok0_21, ok0_22, ok0_23, ok0_24, ok0_25, ok0_26, ok0_27, ok0_28, ok0_29, ok0_30, ok0_31, ok0_32, ok0_33, ok0_34, ok0_35, ok0_36, ok0_37, ok0_38, ok0_39, ok0_40, ok0_41, ok0_42, ok0_43, ok0_44, ok0_45, ok0_46, ok0_47, ok0_48, ok0_49, ok0_50, ok0_51, ok0_52, ok0_53, ok0_54, ok1_141, ok2_55, ok2_56, ok2_57, ok2_58, ok2_59, ok2_60, ok2_61, ok2_62, ok2_63, ok2_64, ok2_65, ok2_66, ok2_67, ok2_68, ok2_69, ok2_70, ok2_71, ok2_72, ok2_73, ok2_74, ok2_75, ok2_76, ok2_77, ok2_78, ok2_79, ok2_80, ok2_81, ok2_82, ok2_83, ok2_84, ok2_85, ok2_86, ok2_87, ok2_88, ok2_89, ok2_90, ok2_91, ok2_92, ok2_93, ok2_94, ok2_95, ok2_96, ok2_97, ok2_98, ok2_99, ok2_100, ok2_101, ok2_102, ok2_103, ok2_104, ok2_105, ok2_106, ok2_107, ok2_108, ok2_109, ok2_110, ok2_111, ok2_112, ok2_113, ok2_114, ok2_115, ok2_116, ok2_117, ok2_118, ok2_119, ok2_120, ok2_121, ok2_122, ok2_123, ok2_124, ok2_125, ok2_126, ok2_127, ok2_128, ok2_129, ok2_130, ok2_131, ok2_132, ok2_133, ok2_134, ok2_135, ok2_136, ok2_137, ok3_171, ok3_172, ok3_173, ok3_174, ok3_175, ok3_176, ok4_171, ok4_172, ok4_173, ok4_174, ok4_175, ok4_176, ok4_177, ok4_178, ok5_171, ok5_172, ok5_173, ok5_174, ok5_175, ok5_176, ok5_177, ok5_178, ok5_179, ok7_142, ok7_143, ok7_144, ok7_145, ok7_146, ok7_147, ok7_148, ok7_149, ok7_152, ok7_153, ok7_154, ok8_142, ok8_143, ok8_144, ok8_145, ok8_146, ok8_147, ok8_148, ok8_149, ok8_152, ok8_153, ok8_154, ok8_155, ok9_142, ok9_143, ok9_144, ok9_145, ok9_146, ok9_147, ok9_148, ok9_149, ok9_152, ok9_153, ok9_154, ok9_155, ok9_180, ok10_142, ok10_143, ok10_144, ok10_145, ok10_146, ok10_147, ok10_148, ok10_149, ok10_150, ok10_151, ok11_142, ok11_143, ok11_144, ok11_145, ok11_146, ok11_147, ok11_148, ok11_149, ok11_152, ok11_153, ok11_154, ok11_155, ok11_156, ok11_157, ok13_158, ok13_159, ok13_160, ok13_161, ok13_162, ok13_163, ok13_164, ok13_165, ok13_166, ok13_167, ok13_168, ok13_169, ok13_170, ok16_138, ok16_139, ok16_140, ct_a, ct_a5, ct_b, ct_c, ct_d, ct_r50, ct_r51, ct_r52, ct_r53, ct_r54, xs_T, xsR_5, xsT_4, xsL_4, xsR_6, xsT_5, xsL_5, xsR_7, xsT_6, xsL_6, xsR_8, xsT_7, xsL_7, xsR_9, xsT_8, xsL_8, xsR_10, xsT_9, xsL_9, xsR_14, xsT_10, xsL_10, xsR_17, xsT_11, xsL_11, xsR_18, xsT_12, xsL_12, xsR_24, xsT_13, xsL_13, xsR_25, xsT_14, xsL_14, xsR_26, xsT_24, xsL_24, xsR_28, xsT_106, xsL_106, xsR_34, xsT_107, xsL_107, xsR_41, xsT_108, xsL_108, xsR_42, xsT_109, xsL_109, xsR_43, xsT_110, xsL_110, xsR_44, xsT_111, xsL_111, xsR_46, xsT_112, xsL_112, xsR_52, xsT_121, xsL_121, xsR_53, xsT_122, xsL_122, xsR_54, xsT_131, xsL_131, hX, hT5, hsz]
    refine whQ (P := fun r : Bool × Option AV × (Nat → Nat → Bool) × AH => At d 38 42 [some (vr (some 3)), some (vr (some q)), some (vi (bI r.1)), r.2.1] [] r.2.2.2) (Q := fun r => ∃ G', r = some (.inl none, G') ∧ Sx [q] [] G G' ∧ ∀ t, t < s 0 2 → hJ G' q t = wd (nar s U t)) (fun r => Sx [q] [] G r.2.2.2 ∧ (∀ t, t < s 0 2 → hJ r.2.2.2 q t = wd (r.2.2.1 t)) ∧ Big (s 0 2) (s 0 3) U (s 10) (s 11) (fw s) (told s) r.2.2.1 ∧ (r.1 = false → Stb (s 0 3) U (s 10) (s 11) (fw s) r.2.2.1)) (fun r => 2 * fam r.2.2.1 (s 0 2) + (if r.1 = true then 1 else 0)) ?_ (s := (true, none, told s, H)) ⟨a1, a2, ⟨SubF.refl _ _, fun Y h _ => h⟩, fun r => by cases r⟩
    clear a1 a2 hDH hX hsz hT5
    rintro ⟨more, l2, X, H⟩ ⟨a1, a2, a3, a4⟩ ih
    dsimp only at a1 a2 a3 a4 ih ⊢
    rw [rX0_settle_42]
    cases more with
    | false =>
      have hn : IsNar (s 0 2) (s 0 3) U (s 10) (s 11) (fw s) (told s) X := ⟨a3.1, a4 rfl, a3.2⟩
      simp (disch := omega) only [rX0_settle_43, rX0_settle_102, psh_some, psh_none, bnd_r1, bnd_r0, b01_0, b01_1, lg_lt, lg_eq, lg_gt, lg_ge, lg_le, reduceIte, Bool.false_eq_true, and_true, true_and, and_false, false_and, not_true_eq_false, not_false_eq_true, eq_self, nI_add, nI_mul, nI_div, nI_irm, nI_subk, inb_ok, ix_ok, nI_lt_t, nI_lt_f, nI_le_t, nI_le_f, nI_eq_t, nI_eq_f, nI_z, ifb, ifbn, b01_bI, b01_n, Nat.reduceEqDiff, nl_l, nl_n, nl_i, nl_r, Bool.true_eq_false, reduceIte, if_true, if_false]
      refine ⟨H, rfl, a1, fun t ht => ?_⟩
      rw [a2 t ht]
      exact wd_congr fun c hc => (narF_eq hn ht hc).symm
    | true =>
      simp (disch := omega) only [rX0_settle_43, rX0_settle_46, rX0_settle_47, rX0_settle_48, rX0_settle_49, psh_some, psh_none, bnd_r1, bnd_r0, b01_0, b01_1, lg_lt, lg_eq, lg_gt, lg_ge, lg_le, reduceIte, Bool.false_eq_true, and_true, true_and, and_false, false_and, not_true_eq_false, not_false_eq_true, eq_self, nI_add, nI_mul, nI_div, nI_irm, nI_subk, inb_ok, ix_ok, nI_lt_t, nI_lt_f, nI_le_t, nI_le_f, nI_eq_t, nI_eq_f, nI_z, ifb, ifbn, b01_bI, b01_n, Nat.reduceEqDiff, nl_l, nl_n, nl_i, nl_r, Bool.true_eq_false, reduceIte, if_true, if_false]
      refine lpQ (P := fun m (r : Bool × (Nat → Nat → Bool) × AH) => At d 38 50 [some (vr (some 3)), some (vr (some q)), some (vi (bI r.1)), some (vi (nI m))] [] r.2.2) (Q := fun r => ∃ G', r = some (.inl none, G') ∧ Sx [q] [] G G' ∧ ∀ t, t < s 0 2 → hJ G' q t = wd (nar s U t)) (fun m r => Sx [q] [] G r.2.2 ∧ (∀ t, t < s 0 2 → hJ r.2.2 q t = wd (r.2.1 t)) ∧ Big (s 0 2) (s 0 3) U (s 10) (s 11) (fw s) (told s) r.2.1 ∧ SubF (s 0 2) r.2.1 X ∧ (r.1 = true → fam r.2.1 (s 0 2) < fam X (s 0 2)) ∧ (r.1 = false → (∀ t, t < s 0 2 → ∀ c, c < 64 → r.2.1 t c = X t c) ∧ ∀ m', m' < m → StM U (s 10) (s 11) (fw s) r.2.1 m')) (s 0 3) ?_ ?_ (Nat.zero_le _) (s := (false, X, H)) ⟨a1, a2, a3, SubF.refl _ _, fun r => (by cases r), fun _ => ⟨fun _ _ _ _ => rfl, fun m' h => absurd h (by omega)⟩⟩
      · rintro m ⟨more, Y, K⟩ hm ⟨b1, b2, b3, b4, b5, b6⟩ ihm
        dsimp only at b1 b2 b3 b4 b5 b6 ihm ⊢
        have hDK := hD.sx b1 hoff
        have hX := hDK.1
        obtain ⟨hqT, hqL⟩ := hqt K hX
        have hsz := c_size (d := d - 1) (dk_M hDK)
        have hT6 := (dk_M hDK).1
        have hg := x_getM (d := d - 1) hDK hm (by omega)
        have hme := dk_me hDK hm
        have htg := me_tag hS hm hme
        have hr184 := hme.1
        have hu : hI K 9 m = bI (U m) := by rw [b1.2.1 _ _ (by simp; omega) (by omega)]; exact hU m hm
        obtain ⟨qa, qb, qne⟩ := hab m hm
        have hYc : ∀ t, t < s 0 2 → ∀ c, c < 64 → Y t c = true → isC s c = true := fun t ht c hc z => told_isC hS ht (b3.1 t ht c hc z)
        have hone := x_isLess (d := d - 1) hDK hS hm hqT hqL (b2 _ qa) (b2 _ qb) (hYc _ qa) (hYc _ qb) (by omega) (by omega)
        rw [rX0_settle_50]
        cases hUm : U m with
        | false =>
          rw [hUm] at hu
          simp (disch := omega) only [rX0_settle_51, rX0_settle_52, rX0_settle_55, rX0_settle_60, rX0_settle_63, rX0_settle_64, rX0_settle_67, rX0_settle_68, rX0_settle_69, rX0_settle_93, rX0_settle_96, psh_some, psh_none, bnd_r1, bnd_r0, b01_0, b01_1, lg_lt, lg_eq, lg_gt, lg_ge, lg_le, reduceIte, Bool.false_eq_true, and_true, true_and, and_false, false_and, not_true_eq_false, not_false_eq_true, eq_self, nI_add, nI_mul, nI_div, nI_irm, nI_subk, inb_ok, ix_ok, nI_lt_t, nI_lt_f, nI_le_t, nI_le_f, nI_eq_t, nI_eq_f, nI_z, ifb, ifbn, b01_bI, b01_n, Nat.reduceEqDiff, nl_l, nl_n, nl_i, nl_r, Bool.true_eq_false, reduceIte, if_true, if_false, ok0_0, ok0_1, ok0_2, ok0_3, ok0_4, ok0_5, ok0_6, ok0_7, ok0_8, ok0_9, ok0_10, ok0_11, ok0_12, ok0_13, ok0_14, ok0_15, ok0_16, ok0_17, ok0_18, ok0_19, ok0_20, ok0_21, ok0_22, ok0_23, ok0_24, ok0_25, ok0_26, ok0_27, ok0_28, ok0_29, ok0_30, ok0_31, ok0_32, ok0_33, ok0_34, ok0_35, ok0_36, ok0_37, ok0_38, ok0_39, ok0_40, ok0_41, ok0_42, ok0_43, ok0_44, ok0_45, ok0_46, ok0_47, ok0_48, ok0_49, ok0_50, ok0_51, ok0_52, ok0_53, ok0_54, ok1_141, ok2_55, ok2_56, ok2_57, ok2_58, ok2_59, ok2_60, ok2_61, ok2_62, ok2_63, ok2_64, ok2_65, ok2_66, ok2_67, ok2_68, ok2_69, ok2_70, ok2_71, ok2_72, ok2_73, ok2_74, ok2_75, ok2_76, ok2_77, ok2_78, ok2_79, ok2_80, ok2_81, ok2_82, ok2_83, ok2_84, ok2_85, ok2_86, ok2_87, ok2_88, ok2_89, ok2_90, ok2_91, ok2_92, ok2_93, ok2_94, ok2_95, ok2_96, ok2_97, ok2_98, ok2_99, ok2_100, ok2_101, ok2_102, ok2_103, ok2_104, ok2_105, ok2_106, ok2_107, ok2_108, ok2_109, ok2_110, ok2_111, ok2_112, ok2_113, ok2_114, ok2_115, ok2_116, ok2_117, ok2_118, ok2_119, ok2_120, ok2_121, ok2_122, ok2_123, ok2_124, ok2_125, ok2_126, ok2_127, ok2_128, ok2_129, ok2_130, ok2_131, ok2_132, ok2_133, ok2_134, ok2_135, ok2_136, ok2_137, ok3_171, ok3_172, ok3_173, ok3_174, ok3_175, ok3_176, ok4_171, ok4_172, ok4_173, ok4_174, ok4_175, ok4_176, ok4_177, ok4_178, ok5_171, ok5_172, ok5_173, ok5_174, ok5_175, ok5_176, ok5_177, ok5_178, ok5_179, ok7_142, ok7_143, ok7_144, ok7_145, ok7_146, ok7_147, ok7_148, ok7_149, ok7_152, ok7_153, ok7_154, ok8_142, ok8_143, ok8_144, ok8_145, ok8_146, ok8_147, ok8_148, ok8_149, ok8_152, ok8_153, ok8_154, ok8_155, ok9_142, ok9_143, ok9_144, ok9_145, ok9_146, ok9_147, ok9_148, ok9_149, ok9_152, ok9_153, ok9_154, ok9_155, ok9_180, ok10_142, ok10_143, ok10_144, ok10_145, ok10_146, ok10_147, ok10_148, ok10_149, ok10_150, ok10_151, ok11_142, ok11_143, ok11_144, ok11_145, ok11_146, ok11_147, ok11_148, ok11_149, ok11_152, ok11_153, ok11_154, ok11_155, ok11_156, ok11_157, ok13_158, ok13_159, ok13_160, ok13_161, ok13_162, ok13_163, ok13_164, ok13_165, ok13_166, ok13_167, ok13_168, ok13_169, ok13_170, ok16_138, ok16_139, ok16_140, ct_a, ct_a5, ct_b, ct_c, ct_d, ct_r50, ct_r51, ct_r52, ct_r53, ct_r54, xs_T, xsR_5, xsT_4, xsL_4, xsR_6, xsT_5, xsL_5, xsR_7, xsT_6, xsL_6, xsR_8, xsT_7, xsL_7, xsR_9, xsT_8, xsL_8, xsR_10, xsT_9, xsL_9, xsR_14, xsT_10, xsL_10, xsR_17, xsT_11, xsL_11, xsR_18, xsT_12, xsL_12, xsR_24, xsT_13, xsL_13, xsR_25, xsT_14, xsL_14, xsR_26, xsT_24, xsL_24, xsR_28, xsT_106, xsL_106, xsR_34, xsT_107, xsL_107, xsR_41, xsT_108, xsL_108, xsR_42, xsT_109, xsL_109, xsR_43, xsT_110, xsL_110, xsR_44, xsT_111, xsL_111, xsR_46, xsT_112, xsL_112, xsR_52, xsT_121, xsL_121, xsR_53, xsT_122, xsL_122, xsR_54, xsT_131, xsL_131, hX, hT6, hsz, hu]
          refine ihm (more, Y, K) ⟨b1, b2, b3, b4, b5, fun hq => ⟨(b6 hq).1, fun m' hm' hu' => ?_⟩⟩
          by_cases z : m' = m
          · rw [z, hUm] at hu'; cases hu'
          · exact (b6 hq).2 m' (by omega) hu'
        | true =>
          rw [hUm] at hu
          have hleft : ∀ (P Q : Nat → Bool) (t : Nat), t < s 0 2 → hJ (sJ (sJ K q (s 10 m) (wd P)) q (s 11 m) (wd Q)) q t = wd (up2 Y (s 10 m) (s 11 m) P Q t) := by
            intro P Q t ht
            rw [hJ_sJ, hJ_sJ]
            unfold up2
            by_cases w1 : t = s 11 m
            · rw [if_pos ⟨rfl, w1⟩, if_neg (by omega), if_pos w1]
            · rw [if_neg (fun q => w1 q.2), if_neg w1]
              by_cases w2 : t = s 10 m
              · rw [if_pos ⟨rfl, w2⟩, if_pos w2]
              · rw [if_neg (fun q => w2 q.2), if_neg w2]
                exact b2 t ht
          have hsm : ∀ (P Q : Int64), Sx [q] [] G (sJ (sJ K q (s 10 m) P) q (s 11 m) Q) := fun P Q => b1.trans ((Sx.sJ (Or.inl (List.mem_singleton.mpr rfl))).trans (Sx.sJ (Or.inl (List.mem_singleton.mpr rfl))))
          have hAle : ∀ c, styA (fw s m) (Y (s 10 m)) (Y (s 11 m)) c = true → Y (s 10 m) c = true := fun c q => by unfold styA at q; simp at q; exact q.1
          have hBle : ∀ c, styB (fw s m) (styA (fw s m) (Y (s 10 m)) (Y (s 11 m))) (Y (s 11 m)) c = true → Y (s 11 m) c = true := fun c q => by unfold styB at q; simp at q; exact q.1
          have hne : ∀ {p q : Nat → Bool}, ¬ wd q = wd p → (∀ c, q c = true → p c = true) → ∃ c, c < 64 ∧ q c = false ∧ p c = true := by
            intro p q h1 h2
            refine Classical.byContradiction fun h3 => h1 (wd_congr fun c hc => ?_)
            cases hp : p c <;> cases hq : q c
            · rfl
            · rw [h2 c hq] at hp; cases hp
            · exact absurd ⟨c, hc, hq, hp⟩ h3
            · rfl
          have hbig := b3.comp hm hUm qa qb
          generalize hA' : styA (fw s m) (Y (s 10 m)) (Y (s 11 m)) = A' at *
          generalize hB' : styB (fw s m) A' (Y (s 11 m)) = B' at *
          have hsub : SubF (s 0 2) (up2 Y (s 10 m) (s 11 m) A' B') Y := up2_sub hAle hBle
          cases hdd : (decide (¬ wd A' = wd (Y (s 10 m))) || decide (¬ wd B' = wd (Y (s 11 m)))) with
          | true =>
            rw [hdd] at hone
            simp (disch := first | omega | assumption) only [rX0_settle_51, rX0_settle_52, rX0_settle_55, rX0_settle_60, rX0_settle_63, rX0_settle_64, rX0_settle_67, rX0_settle_68, rX0_settle_69, rX0_settle_72, rX0_settle_73, rX0_settle_74, rX0_settle_75, rX0_settle_78, rX0_settle_79, rX0_settle_84, rX0_settle_84_n, rX0_settle_87, rX0_settle_88, rX0_settle_91, rX0_settle_92, rX0_settle_93, rX0_settle_96, psh_some, psh_none, bnd_r1, bnd_r0, b01_0, b01_1, lg_lt, lg_eq, lg_gt, lg_ge, lg_le, reduceIte, Bool.false_eq_true, and_true, true_and, and_false, false_and, not_true_eq_false, not_false_eq_true, eq_self, nI_add, nI_mul, nI_div, nI_irm, nI_subk, inb_ok, ix_ok, nI_lt_t, nI_lt_f, nI_le_t, nI_le_f, nI_eq_t, nI_eq_f, nI_z, ifb, ifbn, b01_bI, b01_n, Nat.reduceEqDiff, nl_l, nl_n, nl_i, nl_r, Bool.true_eq_false, reduceIte, if_true, if_false, ok0_0, ok0_1, ok0_2, ok0_3, ok0_4, ok0_5, ok0_6, ok0_7, ok0_8, ok0_9, ok0_10, ok0_11, ok0_12, ok0_13, ok0_14, ok0_15, ok0_16, ok0_17, ok0_18, ok0_19, ok0_20, ok0_21, ok0_22, ok0_23, ok0_24, ok0_25, ok0_26, ok0_27, ok0_28, ok0_29, ok0_30, ok0_31, ok0_32, ok0_33, ok0_34, ok0_35, ok0_36, ok0_37, ok0_38, ok0_39, ok0_40, ok0_41, ok0_42, ok0_43, ok0_44, ok0_45, ok0_46, ok0_47, ok0_48, ok0_49, ok0_50, ok0_51, ok0_52, ok0_53, ok0_54, ok1_141, ok2_55, ok2_56, ok2_57, ok2_58, ok2_59, ok2_60, ok2_61, ok2_62, ok2_63, ok2_64, ok2_65, ok2_66, ok2_67, ok2_68, ok2_69, ok2_70, ok2_71, ok2_72, ok2_73, ok2_74, ok2_75, ok2_76, ok2_77, ok2_78, ok2_79, ok2_80, ok2_81, ok2_82, ok2_83, ok2_84, ok2_85, ok2_86, ok2_87, ok2_88, ok2_89, ok2_90, ok2_91, ok2_92, ok2_93, ok2_94, ok2_95, ok2_96, ok2_97, ok2_98, ok2_99, ok2_100, ok2_101, ok2_102, ok2_103, ok2_104, ok2_105, ok2_106, ok2_107, ok2_108, ok2_109, ok2_110, ok2_111, ok2_112, ok2_113, ok2_114, ok2_115, ok2_116, ok2_117, ok2_118, ok2_119, ok2_120, ok2_121, ok2_122, ok2_123, ok2_124, ok2_125, ok2_126, ok2_127, ok2_128, ok2_129, ok2_130, ok2_131, ok2_132, ok2_133, ok2_134, ok2_135, ok2_136, ok2_137, ok3_171, ok3_172, ok3_173, ok3_174, ok3_175, ok3_176, ok4_171, ok4_172, ok4_173, ok4_174, ok4_175, ok4_176, ok4_177, ok4_178, ok5_171, ok5_172, ok5_173, ok5_174, ok5_175, ok5_176, ok5_177, ok5_178, ok5_179, ok7_142, ok7_143, ok7_144, ok7_145, ok7_146, ok7_147, ok7_148, ok7_149, ok7_152, ok7_153, ok7_154, ok8_142, ok8_143, ok8_144, ok8_145, ok8_146, ok8_147, ok8_148, ok8_149, ok8_152, ok8_153, ok8_154, ok8_155, ok9_142, ok9_143, ok9_144, ok9_145, ok9_146, ok9_147, ok9_148, ok9_149, ok9_152, ok9_153, ok9_154, ok9_155, ok9_180, ok10_142, ok10_143, ok10_144, ok10_145, ok10_146, ok10_147, ok10_148, ok10_149, ok10_150, ok10_151, ok11_142, ok11_143, ok11_144, ok11_145, ok11_146, ok11_147, ok11_148, ok11_149, ok11_152, ok11_153, ok11_154, ok11_155, ok11_156, ok11_157, ok13_158, ok13_159, ok13_160, ok13_161, ok13_162, ok13_163, ok13_164, ok13_165, ok13_166, ok13_167, ok13_168, ok13_169, ok13_170, ok16_138, ok16_139, ok16_140, ct_a, ct_a5, ct_b, ct_c, ct_d, ct_r50, ct_r51, ct_r52, ct_r53, ct_r54, xs_T, xsR_5, xsT_4, xsL_4, xsR_6, xsT_5, xsL_5, xsR_7, xsT_6, xsL_6, xsR_8, xsT_7, xsL_7, xsR_9, xsT_8, xsL_8, xsR_10, xsT_9, xsL_9, xsR_14, xsT_10, xsL_10, xsR_17, xsT_11, xsL_11, xsR_18, xsT_12, xsL_12, xsR_24, xsT_13, xsL_13, xsR_25, xsT_14, xsL_14, xsR_26, xsT_24, xsL_24, xsR_28, xsT_106, xsL_106, xsR_34, xsT_107, xsL_107, xsR_41, xsT_108, xsL_108, xsR_42, xsT_109, xsL_109, xsR_43, xsT_110, xsL_110, xsR_44, xsT_111, xsL_111, xsR_46, xsT_112, xsL_112, xsR_52, xsT_121, xsL_121, xsR_53, xsT_122, xsL_122, xsR_54, xsT_131, xsL_131, hX, hT6, hsz, hg, htg, hu, hone, bI_or, Bool.or_true]
            refine ihm (true, up2 Y (s 10 m) (s 11 m) A' B', sJ (sJ K q (s 10 m) (wd A')) q (s 11 m) (wd B')) ⟨hsm _ _, hleft _ _, hbig, hsub.trans b4, fun _ => ?_, fun q => by cases q⟩
            have hlt : fam (up2 Y (s 10 m) (s 11 m) A' B') (s 0 2) < fam Y (s 0 2) := by
              refine fam_lt hsub ?_
              rw [Bool.or_eq_true, decide_eq_true_eq, decide_eq_true_eq] at hdd
              rcases hdd with w | w
              · obtain ⟨c, hc, h1, h2⟩ := hne w hAle
                exact ⟨s 10 m, c, qa, hc, by unfold up2; rw [if_pos rfl]; exact h1, h2⟩
              · obtain ⟨c, hc, h1, h2⟩ := hne w hBle
                exact ⟨s 11 m, c, qb, hc, by unfold up2; rw [if_neg (fun q => qne q.symm), if_pos rfl]; exact h1, h2⟩
            exact Nat.lt_of_lt_of_le hlt (fam_mono b4)
          | false =>
            rw [hdd] at hone
            rw [Bool.or_eq_false_iff, decide_eq_false_iff_not, decide_eq_false_iff_not, Classical.not_not, Classical.not_not] at hdd
            obtain ⟨w1, w2⟩ := hdd
            simp (disch := first | omega | assumption) only [rX0_settle_51, rX0_settle_52, rX0_settle_55, rX0_settle_60, rX0_settle_63, rX0_settle_64, rX0_settle_67, rX0_settle_68, rX0_settle_69, rX0_settle_72, rX0_settle_73, rX0_settle_74, rX0_settle_75, rX0_settle_78, rX0_settle_79, rX0_settle_84, rX0_settle_84_n, rX0_settle_87, rX0_settle_88, rX0_settle_91, rX0_settle_92, rX0_settle_93, rX0_settle_96, psh_some, psh_none, bnd_r1, bnd_r0, b01_0, b01_1, lg_lt, lg_eq, lg_gt, lg_ge, lg_le, reduceIte, Bool.false_eq_true, and_true, true_and, and_false, false_and, not_true_eq_false, not_false_eq_true, eq_self, nI_add, nI_mul, nI_div, nI_irm, nI_subk, inb_ok, ix_ok, nI_lt_t, nI_lt_f, nI_le_t, nI_le_f, nI_eq_t, nI_eq_f, nI_z, ifb, ifbn, b01_bI, b01_n, Nat.reduceEqDiff, nl_l, nl_n, nl_i, nl_r, Bool.true_eq_false, reduceIte, if_true, if_false, ok0_0, ok0_1, ok0_2, ok0_3, ok0_4, ok0_5, ok0_6, ok0_7, ok0_8, ok0_9, ok0_10, ok0_11, ok0_12, ok0_13, ok0_14, ok0_15, ok0_16, ok0_17, ok0_18, ok0_19, ok0_20, ok0_21, ok0_22, ok0_23, ok0_24, ok0_25, ok0_26, ok0_27, ok0_28, ok0_29, ok0_30, ok0_31, ok0_32, ok0_33, ok0_34, ok0_35, ok0_36, ok0_37, ok0_38, ok0_39, ok0_40, ok0_41, ok0_42, ok0_43, ok0_44, ok0_45, ok0_46, ok0_47, ok0_48, ok0_49, ok0_50, ok0_51, ok0_52, ok0_53, ok0_54, ok1_141, ok2_55, ok2_56, ok2_57, ok2_58, ok2_59, ok2_60, ok2_61, ok2_62, ok2_63, ok2_64, ok2_65, ok2_66, ok2_67, ok2_68, ok2_69, ok2_70, ok2_71, ok2_72, ok2_73, ok2_74, ok2_75, ok2_76, ok2_77, ok2_78, ok2_79, ok2_80, ok2_81, ok2_82, ok2_83, ok2_84, ok2_85, ok2_86, ok2_87, ok2_88, ok2_89, ok2_90, ok2_91, ok2_92, ok2_93, ok2_94, ok2_95, ok2_96, ok2_97, ok2_98, ok2_99, ok2_100, ok2_101, ok2_102, ok2_103, ok2_104, ok2_105, ok2_106, ok2_107, ok2_108, ok2_109, ok2_110, ok2_111, ok2_112, ok2_113, ok2_114, ok2_115, ok2_116, ok2_117, ok2_118, ok2_119, ok2_120, ok2_121, ok2_122, ok2_123, ok2_124, ok2_125, ok2_126, ok2_127, ok2_128, ok2_129, ok2_130, ok2_131, ok2_132, ok2_133, ok2_134, ok2_135, ok2_136, ok2_137, ok3_171, ok3_172, ok3_173, ok3_174, ok3_175, ok3_176, ok4_171, ok4_172, ok4_173, ok4_174, ok4_175, ok4_176, ok4_177, ok4_178, ok5_171, ok5_172, ok5_173, ok5_174, ok5_175, ok5_176, ok5_177, ok5_178, ok5_179, ok7_142, ok7_143, ok7_144, ok7_145, ok7_146, ok7_147, ok7_148, ok7_149, ok7_152, ok7_153, ok7_154, ok8_142, ok8_143, ok8_144, ok8_145, ok8_146, ok8_147, ok8_148, ok8_149, ok8_152, ok8_153, ok8_154, ok8_155, ok9_142, ok9_143, ok9_144, ok9_145, ok9_146, ok9_147, ok9_148, ok9_149, ok9_152, ok9_153, ok9_154, ok9_155, ok9_180, ok10_142, ok10_143, ok10_144, ok10_145, ok10_146, ok10_147, ok10_148, ok10_149, ok10_150, ok10_151, ok11_142, ok11_143, ok11_144, ok11_145, ok11_146, ok11_147, ok11_148, ok11_149, ok11_152, ok11_153, ok11_154, ok11_155, ok11_156, ok11_157, ok13_158, ok13_159, ok13_160, ok13_161, ok13_162, ok13_163, ok13_164, ok13_165, ok13_166, ok13_167, ok13_168, ok13_169, ok13_170, ok16_138, ok16_139, ok16_140, ct_a, ct_a5, ct_b, ct_c, ct_d, ct_r50, ct_r51, ct_r52, ct_r53, ct_r54, xs_T, xsR_5, xsT_4, xsL_4, xsR_6, xsT_5, xsL_5, xsR_7, xsT_6, xsL_6, xsR_8, xsT_7, xsL_7, xsR_9, xsT_8, xsL_8, xsR_10, xsT_9, xsL_9, xsR_14, xsT_10, xsL_10, xsR_17, xsT_11, xsL_11, xsR_18, xsT_12, xsL_12, xsR_24, xsT_13, xsL_13, xsR_25, xsT_14, xsL_14, xsR_26, xsT_24, xsL_24, xsR_28, xsT_106, xsL_106, xsR_34, xsT_107, xsL_107, xsR_41, xsT_108, xsL_108, xsR_42, xsT_109, xsL_109, xsR_43, xsT_110, xsL_110, xsR_44, xsT_111, xsL_111, xsR_46, xsT_112, xsL_112, xsR_52, xsT_121, xsL_121, xsR_53, xsT_122, xsL_122, xsR_54, xsT_131, xsL_131, hX, hT6, hsz, hg, htg, hu, hone, bI_or, Bool.or_false]
            refine ihm (more, Y, sJ (sJ K q (s 10 m) (wd A')) q (s 11 m) (wd B')) ⟨hsm _ _, fun t ht => ?_, b3, b4, b5, fun hq => ⟨(b6 hq).1, fun m' hm' hu' => ?_⟩⟩
            · dsimp only
              rw [hleft A' B' t ht]
              unfold up2
              split
              · next e => rw [e]; exact w1
              · split
                · next e => rw [e]; exact w2
                · rfl
            · by_cases z : m' = m
              · subst z
                refine sty_stM (fun c hc => by rw [hA']; exact wd_inj w1 hc) (fun c hc => ?_)
                dsimp only
                have h4 := wd_inj w2 hc
                rw [← hB'] at h4
                rw [← h4]
                unfold styB
                have h5 : anyC (fun e => fw s m' e c && Y (s 10 m') e) = anyC (fun e => fw s m' e c && A' e) := anyC_congr fun e he => by rw [wd_inj w1 he]
                rw [h5]
              · exact (b6 hq).2 m' (by omega) hu'
      · rintro ⟨more, Y, K⟩ ⟨b1, b2, b3, b4, b5, b6⟩
        dsimp only at b1 b2 b3 b4 b5 b6 ⊢
        have hDK := hD.sx b1 hoff
        have hX := hDK.1
        have hsz := c_size (d := d - 1) (dk_M hDK)
        have hT6 := (dk_M hDK).1
        rw [rX0_settle_50]
        simp (disch := omega) only [rX0_settle_51, rX0_settle_52, rX0_settle_55, rX0_settle_60, rX0_settle_99, psh_some, psh_none, bnd_r1, bnd_r0, b01_0, b01_1, lg_lt, lg_eq, lg_gt, lg_ge, lg_le, reduceIte, Bool.false_eq_true, and_true, true_and, and_false, false_and, not_true_eq_false, not_false_eq_true, eq_self, nI_add, nI_mul, nI_div, nI_irm, nI_subk, inb_ok, ix_ok, nI_lt_t, nI_lt_f, nI_le_t, nI_le_f, nI_eq_t, nI_eq_f, nI_z, ifb, ifbn, b01_bI, b01_n, Nat.reduceEqDiff, nl_l, nl_n, nl_i, nl_r, Bool.true_eq_false, reduceIte, if_true, if_false, ok0_0, ok0_1, ok0_2, ok0_3, ok0_4, ok0_5, ok0_6, ok0_7, ok0_8, ok0_9, ok0_10, ok0_11, ok0_12, ok0_13, ok0_14, ok0_15, ok0_16, ok0_17, ok0_18, ok0_19, ok0_20, ok0_21, ok0_22, ok0_23, ok0_24, ok0_25, ok0_26, ok0_27, ok0_28, ok0_29, ok0_30, ok0_31, ok0_32, ok0_33, ok0_34, ok0_35, ok0_36, ok0_37, ok0_38, ok0_39, ok0_40, ok0_41, ok0_42, ok0_43, ok0_44, ok0_45, ok0_46, ok0_47, ok0_48, ok0_49, ok0_50, ok0_51, ok0_52, ok0_53, ok0_54, ok1_141, ok2_55, ok2_56, ok2_57, ok2_58, ok2_59, ok2_60, ok2_61, ok2_62, ok2_63, ok2_64, ok2_65, ok2_66, ok2_67, ok2_68, ok2_69, ok2_70, ok2_71, ok2_72, ok2_73, ok2_74, ok2_75, ok2_76, ok2_77, ok2_78, ok2_79, ok2_80, ok2_81, ok2_82, ok2_83, ok2_84, ok2_85, ok2_86, ok2_87, ok2_88, ok2_89, ok2_90, ok2_91, ok2_92, ok2_93, ok2_94, ok2_95, ok2_96, ok2_97, ok2_98, ok2_99, ok2_100, ok2_101, ok2_102, ok2_103, ok2_104, ok2_105, ok2_106, ok2_107, ok2_108, ok2_109, ok2_110, ok2_111, ok2_112, ok2_113, ok2_114, ok2_115, ok2_116, ok2_117, ok2_118, ok2_119, ok2_120, ok2_121, ok2_122, ok2_123, ok2_124, ok2_125, ok2_126, ok2_127, ok2_128, ok2_129, ok2_130, ok2_131, ok2_132, ok2_133, ok2_134, ok2_135, ok2_136, ok2_137, ok3_171, ok3_172, ok3_173, ok3_174, ok3_175, ok3_176, ok4_171, ok4_172, ok4_173, ok4_174, ok4_175, ok4_176, ok4_177, ok4_178, ok5_171, ok5_172, ok5_173, ok5_174, ok5_175, ok5_176, ok5_177, ok5_178, ok5_179, ok7_142, ok7_143, ok7_144, ok7_145, ok7_146, ok7_147, ok7_148, ok7_149, ok7_152, ok7_153, ok7_154, ok8_142, ok8_143, ok8_144, ok8_145, ok8_146, ok8_147, ok8_148, ok8_149, ok8_152, ok8_153, ok8_154, ok8_155, ok9_142, ok9_143, ok9_144, ok9_145, ok9_146, ok9_147, ok9_148, ok9_149, ok9_152, ok9_153, ok9_154, ok9_155, ok9_180, ok10_142, ok10_143, ok10_144, ok10_145, ok10_146, ok10_147, ok10_148, ok10_149, ok10_150, ok10_151, ok11_142, ok11_143, ok11_144, ok11_145, ok11_146, ok11_147, ok11_148, ok11_149, ok11_152, ok11_153, ok11_154, ok11_155, ok11_156, ok11_157, ok13_158, ok13_159, ok13_160, ok13_161, ok13_162, ok13_163, ok13_164, ok13_165, ok13_166, ok13_167, ok13_168, ok13_169, ok13_170, ok16_138, ok16_139, ok16_140, ct_a, ct_a5, ct_b, ct_c, ct_d, ct_r50, ct_r51, ct_r52, ct_r53, ct_r54, xs_T, xsR_5, xsT_4, xsL_4, xsR_6, xsT_5, xsL_5, xsR_7, xsT_6, xsL_6, xsR_8, xsT_7, xsL_7, xsR_9, xsT_8, xsL_8, xsR_10, xsT_9, xsL_9, xsR_14, xsT_10, xsL_10, xsR_17, xsT_11, xsL_11, xsR_18, xsT_12, xsL_12, xsR_24, xsT_13, xsL_13, xsR_25, xsT_14, xsL_14, xsR_26, xsT_24, xsL_24, xsR_28, xsT_106, xsL_106, xsR_34, xsT_107, xsL_107, xsR_41, xsT_108, xsL_108, xsR_42, xsT_109, xsL_109, xsR_43, xsT_110, xsL_110, xsR_44, xsT_111, xsL_111, xsR_46, xsT_112, xsL_112, xsR_52, xsT_121, xsL_121, xsR_53, xsT_122, xsL_122, xsR_54, xsT_131, xsL_131, hX, hT6, hsz]
        refine ih (more, some (vi (nI (s 0 3))), Y, K) ⟨b1, b2, b3, fun hq m hm hu => (b6 hq).2 m hm hu⟩ ?_
        dsimp only
        cases more with
        | true => have := b5 rfl; simp; omega
        | false => have := fam_mono b4; simp; omega
theorem x_isEmpty {q : Nat} {X : Nat → Nat → Bool} (hT : hT G q = 41) (hL : hL G q = 24) (hD : DK s w et em rt rm G) (hS : SB s) (hx : ∀ t, t < s 0 2 → hJ G q t = wd (X t)) (hd : 1 ≤ d) : cl d 60 [vr (some 3), vr (some q)] G = some (.inl (some (vi (bI ((List.range (s 0 2)).any (fun t => !anyC (X t)))))), G) := by
  have h0 := hS.1
  have hXs := hD.1
  have hsz := c_size (d := d - 1) (dk_T hD)
  have hT5 := (dk_T hD).1
  rw [en60]
  simp (disch := omega) only [rX0_isEmpty_0, rX0_isEmpty_1, rX0_isEmpty_2, rX0_isEmpty_3, psh_some, psh_none, bnd_r1, bnd_r0, b01_0, b01_1, lg_lt, lg_eq, lg_gt, lg_ge, lg_le, reduceIte, Bool.false_eq_true, and_true, true_and, and_false, false_and, not_true_eq_false, not_false_eq_true, eq_self, nI_add, nI_mul, nI_div, nI_irm, nI_subk, inb_ok, ix_ok, nI_lt_t, nI_lt_f, nI_le_t, nI_le_f, nI_eq_t, nI_eq_f, nI_z, ifb, ifbn, b01_bI, b01_n, Nat.reduceEqDiff, nl_l, nl_n, nl_i, nl_r, Bool.true_eq_false, reduceIte, if_true, if_false]
  refine lpQ (P := fun i (b : Bool) => At d 60 4 [some (vr (some 3)), some (vr (some q)), some (vi (bI b)), some (vi (nI i))] [] G) (Q := fun r => r = some (.inl (some (vi (bI ((List.range (s 0 2)).any (fun t => !anyC (X t)))))), G)) (fun i b => b = (List.range i).any (fun t => !anyC (X t))) (s 0 2) ?_ ?_ (Nat.zero_le _) (s := false) rfl
  · rintro i b hi hb ih
    have hxi := hx i hi
    have ih2 := ih (b || !anyC (X i)) (by rw [List.range_succ, List.any_append, ← hb]; simp)
    have k1 : (wd (X i) = 0) = (anyC (X i) = false) := propext anyC_f.symm
    rw [rX0_isEmpty_4]
    cases hany : anyC (X i) with
    | true =>
      rw [hany] at ih2
      have he : bI b ||| nI 0 = bI (b || !true) := by cases b <;> rfl
      simp (disch := omega) only [rX0_isEmpty_5, rX0_isEmpty_6, rX0_isEmpty_9, rX0_isEmpty_14, rX0_isEmpty_17, rX0_isEmpty_18, rX0_isEmpty_19, rX0_isEmpty_20, rX0_isEmpty_21, rX0_isEmpty_22, rX0_isEmpty_23, rX0_isEmpty_26, rX0_isEmpty_27, rX0_isEmpty_30, rX0_isEmpty_31, rX0_isEmpty_32, rX0_isEmpty_33, rX0_isEmpty_36, psh_some, psh_none, bnd_r1, bnd_r0, b01_0, b01_1, lg_lt, lg_eq, lg_gt, lg_ge, lg_le, reduceIte, Bool.false_eq_true, and_true, true_and, and_false, false_and, not_true_eq_false, not_false_eq_true, eq_self, nI_add, nI_mul, nI_div, nI_irm, nI_subk, inb_ok, ix_ok, nI_lt_t, nI_lt_f, nI_le_t, nI_le_f, nI_eq_t, nI_eq_f, nI_z, ifb, ifbn, b01_bI, b01_n, Nat.reduceEqDiff, nl_l, nl_n, nl_i, nl_r, Bool.true_eq_false, reduceIte, if_true, if_false, ok0_0, ok0_1, ok0_2, ok0_3, ok0_4, ok0_5, ok0_6, ok0_7, ok0_8, ok0_9, ok0_10, ok0_11, ok0_12, ok0_13, ok0_14, ok0_15, ok0_16, ok0_17, ok0_18, ok0_19, ok0_20, ok0_21, ok0_22, ok0_23, ok0_24, ok0_25, ok0_26, ok0_27, ok0_28, ok0_29, ok0_30, ok0_31, ok0_32, ok0_33, ok0_34, ok0_35, ok0_36, ok0_37, ok0_38, ok0_39, ok0_40, ok0_41, ok0_42, ok0_43, ok0_44, ok0_45, ok0_46, ok0_47, ok0_48, ok0_49, ok0_50, ok0_51, ok0_52, ok0_53, ok0_54, ok1_141, ok2_55, ok2_56, ok2_57, ok2_58, ok2_59, ok2_60, ok2_61, ok2_62, ok2_63, ok2_64, ok2_65, ok2_66, ok2_67, ok2_68, ok2_69, ok2_70, ok2_71, ok2_72, ok2_73, ok2_74, ok2_75, ok2_76, ok2_77, ok2_78, ok2_79, ok2_80, ok2_81, ok2_82, ok2_83, ok2_84, ok2_85, ok2_86, ok2_87, ok2_88, ok2_89, ok2_90, ok2_91, ok2_92, ok2_93, ok2_94, ok2_95, ok2_96, ok2_97, ok2_98, ok2_99, ok2_100, ok2_101, ok2_102, ok2_103, ok2_104, ok2_105, ok2_106, ok2_107, ok2_108, ok2_109, ok2_110, ok2_111, ok2_112, ok2_113, ok2_114, ok2_115, ok2_116, ok2_117, ok2_118, ok2_119, ok2_120, ok2_121, ok2_122, ok2_123, ok2_124, ok2_125, ok2_126, ok2_127, ok2_128, ok2_129, ok2_130, ok2_131, ok2_132, ok2_133, ok2_134, ok2_135, ok2_136, ok2_137, ok3_171, ok3_172, ok3_173, ok3_174, ok3_175, ok3_176, ok4_171, ok4_172, ok4_173, ok4_174, ok4_175, ok4_176, ok4_177, ok4_178, ok5_171, ok5_172, ok5_173, ok5_174, ok5_175, ok5_176, ok5_177, ok5_178, ok5_179, ok7_142, ok7_143, ok7_144, ok7_145, ok7_146, ok7_147, ok7_148, ok7_149, ok7_152, ok7_153, ok7_154, ok8_142, ok8_143, ok8_144, ok8_145, ok8_146, ok8_147, ok8_148, ok8_149, ok8_152, ok8_153, ok8_154, ok8_155, ok9_142, ok9_143, ok9_144, ok9_145, ok9_146, ok9_147, ok9_148, ok9_149, ok9_152, ok9_153, ok9_154, ok9_155, ok9_180, ok10_142, ok10_143, ok10_144, ok10_145, ok10_146, ok10_147, ok10_148, ok10_149, ok10_150, ok10_151, ok11_142, ok11_143, ok11_144, ok11_145, ok11_146, ok11_147, ok11_148, ok11_149, ok11_152, ok11_153, ok11_154, ok11_155, ok11_156, ok11_157, ok13_158, ok13_159, ok13_160, ok13_161, ok13_162, ok13_163, ok13_164, ok13_165, ok13_166, ok13_167, ok13_168, ok13_169, ok13_170, ok16_138, ok16_139, ok16_140, ct_a, ct_a5, ct_b, ct_c, ct_d, ct_r50, ct_r51, ct_r52, ct_r53, ct_r54, xs_T, xsR_5, xsT_4, xsL_4, xsR_6, xsT_5, xsL_5, xsR_7, xsT_6, xsL_6, xsR_8, xsT_7, xsL_7, xsR_9, xsT_8, xsL_8, xsR_10, xsT_9, xsL_9, xsR_14, xsT_10, xsL_10, xsR_17, xsT_11, xsL_11, xsR_18, xsT_12, xsL_12, xsR_24, xsT_13, xsL_13, xsR_25, xsT_14, xsL_14, xsR_26, xsT_24, xsL_24, xsR_28, xsT_106, xsL_106, xsR_34, xsT_107, xsL_107, xsR_41, xsT_108, xsL_108, xsR_42, xsT_109, xsL_109, xsR_43, xsT_110, xsL_110, xsR_44, xsT_111, xsL_111, xsR_46, xsT_112, xsL_112, xsR_52, xsT_121, xsL_121, xsR_53, xsT_122, xsL_122, xsR_54, xsT_131, xsL_131, hXs, hT5, hsz, hT, hL, hxi, k1, hany, he]
      exact ih2
    | false =>
      rw [hany] at ih2
      have he : bI b ||| nI 1 = bI (b || !false) := by cases b <;> rfl
      simp (disch := omega) only [rX0_isEmpty_5, rX0_isEmpty_6, rX0_isEmpty_9, rX0_isEmpty_14, rX0_isEmpty_17, rX0_isEmpty_18, rX0_isEmpty_19, rX0_isEmpty_20, rX0_isEmpty_21, rX0_isEmpty_22, rX0_isEmpty_23, rX0_isEmpty_26, rX0_isEmpty_27, rX0_isEmpty_30, rX0_isEmpty_31, rX0_isEmpty_32, rX0_isEmpty_33, rX0_isEmpty_36, psh_some, psh_none, bnd_r1, bnd_r0, b01_0, b01_1, lg_lt, lg_eq, lg_gt, lg_ge, lg_le, reduceIte, Bool.false_eq_true, and_true, true_and, and_false, false_and, not_true_eq_false, not_false_eq_true, eq_self, nI_add, nI_mul, nI_div, nI_irm, nI_subk, inb_ok, ix_ok, nI_lt_t, nI_lt_f, nI_le_t, nI_le_f, nI_eq_t, nI_eq_f, nI_z, ifb, ifbn, b01_bI, b01_n, Nat.reduceEqDiff, nl_l, nl_n, nl_i, nl_r, Bool.true_eq_false, reduceIte, if_true, if_false, ok0_0, ok0_1, ok0_2, ok0_3, ok0_4, ok0_5, ok0_6, ok0_7, ok0_8, ok0_9, ok0_10, ok0_11, ok0_12, ok0_13, ok0_14, ok0_15, ok0_16, ok0_17, ok0_18, ok0_19, ok0_20, ok0_21, ok0_22, ok0_23, ok0_24, ok0_25, ok0_26, ok0_27, ok0_28, ok0_29, ok0_30, ok0_31, ok0_32, ok0_33, ok0_34, ok0_35, ok0_36, ok0_37, ok0_38, ok0_39, ok0_40, ok0_41, ok0_42, ok0_43, ok0_44, ok0_45, ok0_46, ok0_47, ok0_48, ok0_49, ok0_50, ok0_51, ok0_52, ok0_53, ok0_54, ok1_141, ok2_55, ok2_56, ok2_57, ok2_58, ok2_59, ok2_60, ok2_61, ok2_62, ok2_63, ok2_64, ok2_65, ok2_66, ok2_67, ok2_68, ok2_69, ok2_70, ok2_71, ok2_72, ok2_73, ok2_74, ok2_75, ok2_76, ok2_77, ok2_78, ok2_79, ok2_80, ok2_81, ok2_82, ok2_83, ok2_84, ok2_85, ok2_86, ok2_87, ok2_88, ok2_89, ok2_90, ok2_91, ok2_92, ok2_93, ok2_94, ok2_95, ok2_96, ok2_97, ok2_98, ok2_99, ok2_100, ok2_101, ok2_102, ok2_103, ok2_104, ok2_105, ok2_106, ok2_107, ok2_108, ok2_109, ok2_110, ok2_111, ok2_112, ok2_113, ok2_114, ok2_115, ok2_116, ok2_117, ok2_118, ok2_119, ok2_120, ok2_121, ok2_122, ok2_123, ok2_124, ok2_125, ok2_126, ok2_127, ok2_128, ok2_129, ok2_130, ok2_131, ok2_132, ok2_133, ok2_134, ok2_135, ok2_136, ok2_137, ok3_171, ok3_172, ok3_173, ok3_174, ok3_175, ok3_176, ok4_171, ok4_172, ok4_173, ok4_174, ok4_175, ok4_176, ok4_177, ok4_178, ok5_171, ok5_172, ok5_173, ok5_174, ok5_175, ok5_176, ok5_177, ok5_178, ok5_179, ok7_142, ok7_143, ok7_144, ok7_145, ok7_146, ok7_147, ok7_148, ok7_149, ok7_152, ok7_153, ok7_154, ok8_142, ok8_143, ok8_144, ok8_145, ok8_146, ok8_147, ok8_148, ok8_149, ok8_152, ok8_153, ok8_154, ok8_155, ok9_142, ok9_143, ok9_144, ok9_145, ok9_146, ok9_147, ok9_148, ok9_149, ok9_152, ok9_153, ok9_154, ok9_155, ok9_180, ok10_142, ok10_143, ok10_144, ok10_145, ok10_146, ok10_147, ok10_148, ok10_149, ok10_150, ok10_151, ok11_142, ok11_143, ok11_144, ok11_145, ok11_146, ok11_147, ok11_148, ok11_149, ok11_152, ok11_153, ok11_154, ok11_155, ok11_156, ok11_157, ok13_158, ok13_159, ok13_160, ok13_161, ok13_162, ok13_163, ok13_164, ok13_165, ok13_166, ok13_167, ok13_168, ok13_169, ok13_170, ok16_138, ok16_139, ok16_140, ct_a, ct_a5, ct_b, ct_c, ct_d, ct_r50, ct_r51, ct_r52, ct_r53, ct_r54, xs_T, xsR_5, xsT_4, xsL_4, xsR_6, xsT_5, xsL_5, xsR_7, xsT_6, xsL_6, xsR_8, xsT_7, xsL_7, xsR_9, xsT_8, xsL_8, xsR_10, xsT_9, xsL_9, xsR_14, xsT_10, xsL_10, xsR_17, xsT_11, xsL_11, xsR_18, xsT_12, xsL_12, xsR_24, xsT_13, xsL_13, xsR_25, xsT_14, xsL_14, xsR_26, xsT_24, xsL_24, xsR_28, xsT_106, xsL_106, xsR_34, xsT_107, xsL_107, xsR_41, xsT_108, xsL_108, xsR_42, xsT_109, xsL_109, xsR_43, xsT_110, xsL_110, xsR_44, xsT_111, xsL_111, xsR_46, xsT_112, xsL_112, xsR_52, xsT_121, xsL_121, xsR_53, xsT_122, xsL_122, xsR_54, xsT_131, xsL_131, hXs, hT5, hsz, hT, hL, hxi, k1, hany, he]
      exact ih2
  · rintro b hb
    rw [rX0_isEmpty_4]
    simp (disch := omega) only [rX0_isEmpty_5, rX0_isEmpty_6, rX0_isEmpty_9, rX0_isEmpty_14, rX0_isEmpty_39, rX0_isEmpty_40, psh_some, psh_none, bnd_r1, bnd_r0, b01_0, b01_1, lg_lt, lg_eq, lg_gt, lg_ge, lg_le, reduceIte, Bool.false_eq_true, and_true, true_and, and_false, false_and, not_true_eq_false, not_false_eq_true, eq_self, nI_add, nI_mul, nI_div, nI_irm, nI_subk, inb_ok, ix_ok, nI_lt_t, nI_lt_f, nI_le_t, nI_le_f, nI_eq_t, nI_eq_f, nI_z, ifb, ifbn, b01_bI, b01_n, Nat.reduceEqDiff, nl_l, nl_n, nl_i, nl_r, Bool.true_eq_false, reduceIte, if_true, if_false, ok0_0, ok0_1, ok0_2, ok0_3, ok0_4, ok0_5, ok0_6, ok0_7, ok0_8, ok0_9, ok0_10, ok0_11, ok0_12, ok0_13, ok0_14, ok0_15, ok0_16, ok0_17, ok0_18, ok0_19, ok0_20, ok0_21, ok0_22, ok0_23, ok0_24, ok0_25, ok0_26, ok0_27, ok0_28, ok0_29, ok0_30, ok0_31, ok0_32, ok0_33, ok0_34, ok0_35, ok0_36, ok0_37, ok0_38, ok0_39, ok0_40, ok0_41, ok0_42, ok0_43, ok0_44, ok0_45, ok0_46, ok0_47, ok0_48, ok0_49, ok0_50, ok0_51, ok0_52, ok0_53, ok0_54, ok1_141, ok2_55, ok2_56, ok2_57, ok2_58, ok2_59, ok2_60, ok2_61, ok2_62, ok2_63, ok2_64, ok2_65, ok2_66, ok2_67, ok2_68, ok2_69, ok2_70, ok2_71, ok2_72, ok2_73, ok2_74, ok2_75, ok2_76, ok2_77, ok2_78, ok2_79, ok2_80, ok2_81, ok2_82, ok2_83, ok2_84, ok2_85, ok2_86, ok2_87, ok2_88, ok2_89, ok2_90, ok2_91, ok2_92, ok2_93, ok2_94, ok2_95, ok2_96, ok2_97, ok2_98, ok2_99, ok2_100, ok2_101, ok2_102, ok2_103, ok2_104, ok2_105, ok2_106, ok2_107, ok2_108, ok2_109, ok2_110, ok2_111, ok2_112, ok2_113, ok2_114, ok2_115, ok2_116, ok2_117, ok2_118, ok2_119, ok2_120, ok2_121, ok2_122, ok2_123, ok2_124, ok2_125, ok2_126, ok2_127, ok2_128, ok2_129, ok2_130, ok2_131, ok2_132, ok2_133, ok2_134, ok2_135, ok2_136, ok2_137, ok3_171, ok3_172, ok3_173, ok3_174, ok3_175, ok3_176, ok4_171, ok4_172, ok4_173, ok4_174, ok4_175, ok4_176, ok4_177, ok4_178, ok5_171, ok5_172, ok5_173, ok5_174, ok5_175, ok5_176, ok5_177, ok5_178, ok5_179, ok7_142, ok7_143, ok7_144, ok7_145, ok7_146, ok7_147, ok7_148, ok7_149, ok7_152, ok7_153, ok7_154, ok8_142, ok8_143, ok8_144, ok8_145, ok8_146, ok8_147, ok8_148, ok8_149, ok8_152, ok8_153, ok8_154, ok8_155, ok9_142, ok9_143, ok9_144, ok9_145, ok9_146, ok9_147, ok9_148, ok9_149, ok9_152, ok9_153, ok9_154, ok9_155, ok9_180, ok10_142, ok10_143, ok10_144, ok10_145, ok10_146, ok10_147, ok10_148, ok10_149, ok10_150, ok10_151, ok11_142, ok11_143, ok11_144, ok11_145, ok11_146, ok11_147, ok11_148, ok11_149, ok11_152, ok11_153, ok11_154, ok11_155, ok11_156, ok11_157, ok13_158, ok13_159, ok13_160, ok13_161, ok13_162, ok13_163, ok13_164, ok13_165, ok13_166, ok13_167, ok13_168, ok13_169, ok13_170, ok16_138, ok16_139, ok16_140, ct_a, ct_a5, ct_b, ct_c, ct_d, ct_r50, ct_r51, ct_r52, ct_r53, ct_r54, xs_T, xsR_5, xsT_4, xsL_4, xsR_6, xsT_5, xsL_5, xsR_7, xsT_6, xsL_6, xsR_8, xsT_7, xsL_7, xsR_9, xsT_8, xsL_8, xsR_10, xsT_9, xsL_9, xsR_14, xsT_10, xsL_10, xsR_17, xsT_11, xsL_11, xsR_18, xsT_12, xsL_12, xsR_24, xsT_13, xsL_13, xsR_25, xsT_14, xsL_14, xsR_26, xsT_24, xsL_24, xsR_28, xsT_106, xsL_106, xsR_34, xsT_107, xsL_107, xsR_41, xsT_108, xsL_108, xsR_42, xsT_109, xsL_109, xsR_43, xsT_110, xsL_110, xsR_44, xsT_111, xsL_111, xsR_46, xsT_112, xsL_112, xsR_52, xsT_121, xsL_121, xsR_53, xsT_122, xsL_122, xsR_54, xsT_131, xsL_131, hXs, hT5, hsz]
    rw [hb]
end
