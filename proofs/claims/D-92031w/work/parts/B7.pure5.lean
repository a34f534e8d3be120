/-! what holds of every state: pure -/
def IV (s : SGT) (h : Nat → Nat → Int64) : Prop := SI s ∧ SH s ∧ HFt s h
theorem inR_ix {x : Int32} {n : Nat} (h : inR x n = true) (hn : n ≤ 2147483648) : ix x < n ∧ x = nI (ix x) := by
  rcases inR_of (x := x) hn with ⟨c, hc, rfl, -⟩ | q
  · rw [ix_ok (by omega)]; exact ⟨hc, rfl⟩
  · rw [q] at h; cases h
theorem bN_le1 {b : Bool} : bN b ≤ 1 := by cases b <;> decide
section
variable {s s' σ : SGT} {h h' : Nat → Nat → Int64}
theorem IV.of (v : IV s h) (hB : SB s') (hg : ∀ c, 18 ≤ c → c ≠ 26 → s' c = s c) (h3 : s' 26 3 ≤ 4) (h2 : s' 26 2 ≤ 60000) : IV s' h := by
  obtain ⟨v1, v2, v3⟩ := v
  refine ⟨v1.of hB hg h3 h2, fun k hk => ?_, fun k hk i hi => ?_⟩
  · rw [hg 18 (by decide) (by decide), hg 20 (by decide) (by decide)]; exact v2 k hk
  · rw [hg 24 (by decide) (by decide)]
    rw [hg 23 (by decide) (by decide)] at hi
    exact v3 k hk i hi
theorem IV.of' (v : IV s h) (hB : SB s') (hg : ∀ c, 18 ≤ c → s' c = s c) : IV s' h := v.of hB (fun c h1 _ => hg c h1) (by rw [hg 26 (by decide)]; exact v.1.2.2.2.2.1) (by rw [hg 26 (by decide)]; exact v.1.2.2.2.2.2)
theorem flt_2 {n : Nat} : flt s n 26 2 = s 26 2 := by
  unfold flt up
  exact if_neg (by decide)
theorem IV.fl {n : Nat} (v : IV s h) (hn : n ≤ 4) : IV (flt s n) h := v.of v.1.1.flt (fun c _ hc => up_ne hc) (by show up s 26 3 n 26 3 ≤ 4; rw [up_at]; exact hn) (by rw [flt_2]; exact v.1.2.2.2.2.2)
theorem SI.of2 (hS : SI s) (hB : SB s') (hg : ∀ c, 25 ≤ c → s' c = s c) (hh : ∀ k, k < 8 → (s' 18 k = 1000 ∨ s' 18 k = 0 ∨ s' 18 k = 1) ∧ s' 19 k < 60 ∧ s' 20 k ≤ 4 ∧ s' 21 k ≤ 200 ∧ (s' 22 k = 1000 ∨ s' 22 k ≤ 200)) (hs : ∀ k, k < 4 → s' 23 k ≤ 65 ∧ s' 24 k ≤ 3) : SI s' := by
  obtain ⟨-, a2, -, -, a5, a6⟩ := hS
  refine ⟨hB, fun k hk => ?_, hh, hs, by rw [hg 26 (by decide)]; exact a5, by rw [hg 26 (by decide)]; exact a6⟩
  have him : img k s' = img k s := by
    funext f i
    unfold img
    rw [hg _ (by omega)]
  rw [him, hg 25 (by decide)]
  exact a2 k hk
theorem SB.al {v : Nat} (hS : SB s) (hv : v ≤ 1) : SB (up s 26 1 v) := by
  have e : ∀ g, g ≠ 26 → up s 26 1 v g = s g := fun g hg => up_ne hg
  have e0 : up s 26 1 v 26 0 = s 26 0 := if_neg (by decide)
  have e1 : up s 26 1 v 26 1 = v := if_pos ⟨rfl, rfl⟩
  unfold SB fre isC
  rw [e 0 (by decide), e 1 (by decide), e 2 (by decide), e 3 (by decide), e 4 (by decide), e 5 (by decide), e 6 (by decide), e 7 (by decide), e 8 (by decide), e 9 (by decide), e 10 (by decide), e 11 (by decide), e 12 (by decide), e 13 (by decide), e 14 (by decide), e 15 (by decide), e 16 (by decide), e 17 (by decide), e0, e1]
  obtain ⟨⟨b1, b2, b3, b4, b5, b6, b7, -⟩, hr⟩ := hS
  exact ⟨⟨b1, b2, b3, b4, b5, b6, b7, hv⟩, hr⟩
theorem SB.tru {t v : Nat} (hS : SB s) (hv : v ≤ 1) : SB (up s 5 t v) := by
  have e : ∀ g, g ≠ 5 → up s 5 t v g = s g := fun g hg => up_ne hg
  obtain ⟨a1, a2, a3, a4, a5, a6, a7⟩ := hS
  unfold SB fre isC
  rw [e 0 (by decide), e 1 (by decide), e 2 (by decide), e 3 (by decide), e 4 (by decide), e 6 (by decide), e 7 (by decide), e 8 (by decide), e 9 (by decide), e 10 (by decide), e 11 (by decide), e 12 (by decide), e 13 (by decide), e 14 (by decide), e 15 (by decide), e 16 (by decide), e 17 (by decide), e 26 (by decide)]
  refine ⟨a1, a2, fun u hu => ?_, a4, a5, a6, a7⟩
  obtain ⟨c1, c2, c3, c4, c5⟩ := a3 u hu
  refine ⟨c1, c2, c3, ?_, c5⟩
  unfold up
  split
  · exact hv
  · exact c4
theorem SB.onm {t v : Nat} (hS : SB s) (hv : v ≤ 1) : SB (up s 14 t v) := by
  have e : ∀ g, g ≠ 14 → up s 14 t v g = s g := fun g hg => up_ne hg
  obtain ⟨a1, a2, a3, a4, a5, a6, a7⟩ := hS
  unfold SB fre isC
  rw [e 0 (by decide), e 1 (by decide), e 2 (by decide), e 3 (by decide), e 4 (by decide), e 5 (by decide), e 6 (by decide), e 7 (by decide), e 8 (by decide), e 9 (by decide), e 10 (by decide), e 11 (by decide), e 12 (by decide), e 13 (by decide), e 15 (by decide), e 16 (by decide), e 17 (by decide), e 26 (by decide)]
  refine ⟨a1, a2, a3, a4, a5, fun u hu => ?_, a7⟩
  obtain ⟨c1, c2, c3, c4, c5, c6, c7, c8⟩ := a6 u hu
  refine ⟨c1, c2, c3, c4, c5, c6, ?_, c8⟩
  unfold up
  split
  · exact hv
  · exact c7
theorem SB.mp (hS : SB s) (e : ∀ g, g ≠ 8 → s' g = s g) (h8 : ∀ t, t < 24 → s' 8 t = 1000 ∨ (t < s 0 2 ∧ s' 8 t < 64 ∧ isC s (s' 8 t) = true)) : SB s' := by
  obtain ⟨a1, a2, a3, a4, a5, a6, a7⟩ := hS
  have hic : isC s' = isC s := isC_agr (by rw [e 0 (by decide)]) (by rw [e 0 (by decide)])
  have hfr : fre s' = fre s := fre_agr (by rw [e 0 (by decide)]) (by rw [e 0 (by decide)]) (e 1 (by decide))
  unfold SB
  rw [hic, hfr, e 0 (by decide), e 1 (by decide), e 2 (by decide), e 3 (by decide), e 4 (by decide), e 5 (by decide), e 6 (by decide), e 7 (by decide), e 9 (by decide), e 10 (by decide), e 11 (by decide), e 12 (by decide), e 13 (by decide), e 14 (by decide), e 15 (by decide), e 16 (by decide), e 17 (by decide), e 26 (by decide)]
  exact ⟨a1, a2, a3, a4, h8, a6, a7⟩
/-- as SB.ag, but for what is a flag -/
theorem SB.fg (hS : SB s) (e : ∀ g, g ≤ 17 → ¬ (g = 5 ∨ g = 14) → σ g = s g) (e26 : σ 26 0 = s 26 0 ∧ σ 26 1 = s 26 1) (e5 : ∀ t, t < s 0 2 → σ 5 t = s 5 t) (e14 : ∀ m, m < s 0 3 → σ 14 m = s 14 m) : SB σ := by
  have hic : isC σ = isC s := isC_agr (by rw [e 0 (by decide) (by decide)]) (by rw [e 0 (by decide) (by decide)])
  have hfr : fre σ = fre s := fre_agr (by rw [e 0 (by decide) (by decide)]) (by rw [e 0 (by decide) (by decide)]) (e 1 (by decide) (by decide))
  obtain ⟨a1, a2, a3, a4, a5, a6, a7⟩ := hS
  unfold SB
  rw [hic, hfr, e 0 (by decide) (by decide), e 1 (by decide) (by decide), e 2 (by decide) (by decide), e 3 (by decide) (by decide), e 4 (by decide) (by decide), e 6 (by decide) (by decide), e 7 (by decide) (by decide), e 8 (by decide) (by decide), e 9 (by decide) (by decide), e 10 (by decide) (by decide), e 11 (by decide) (by decide), e 12 (by decide) (by decide), e 13 (by decide) (by decide), e 15 (by decide) (by decide), e 16 (by decide) (by decide), e 17 (by decide) (by decide), e26.1, e26.2]
  exact ⟨a1, a2, fun t ht => by rw [e5 t ht]; exact a3 t ht, a4, a5, fun m hm => by rw [e14 m hm]; exact a6 m hm, a7⟩
theorem iv_alone {b : Bool} (v : IV s h) : IV (up s 26 1 (bN b)) h := v.of (v.1.1.al bN_le1) (fun c _ hc => up_ne hc) (by rw [show up s 26 1 (bN b) 26 3 = s 26 3 from if_neg (by decide)]; exact v.1.2.2.2.2.1) (by rw [show up s 26 1 (bN b) 26 2 = s 26 2 from if_neg (by decide)]; exact v.1.2.2.2.2.2)
theorem iv_trust {x : Int32} {b : Bool} (v : IV s h) : IV (sTrust s x b) h := by
  unfold sTrust
  split
  · exact v.of' (v.1.1.tru bN_le1) (fun c h1 => up_ne (by omega))
  · exact v
theorem iv_turn {x : Int32} {b : Bool} (v : IV s h) : IV (sTurn s x b) h := by
  unfold sTurn
  split
  · exact v.of' (v.1.1.onm bN_le1) (fun c h1 => up_ne (by omega))
  · exact v
theorem iv_put {x y : Int32} (v : IV s h) : IV (sPut8 s x y) h := by
  unfold sPut8
  split
  · next q =>
    have h0 := v.1.1.1
    refine v.of' (v.1.1.mp (fun g hg => up_ne hg) fun t ht => ?_) (fun c h1 => up_ne (by omega))
    unfold mayPut at q
    rw [Bool.and_eq_true, Bool.or_eq_true] at q
    have hx := inR_ix q.1 (by omega)
    by_cases e : t = ix x
    · have h8 : up s 8 (ix x) (putV y) 8 t = putV y := by rw [e, up_at]
      rw [h8]
      unfold putV
      by_cases e9 : y = -9
      · left; rw [if_pos e9]
      · rcases q.2 with z | z
        · exact absurd (of_decide_eq_true z) e9
        · right
          obtain ⟨c, hc, hy, hi⟩ := cel_of z
          rw [if_neg e9, hy, ix_ok (by omega)]
          exact ⟨by omega, hc, hi⟩
    · have : up s 8 (ix x) (putV y) 8 t = s 8 t := if_neg (fun z => e z.2)
      rw [this]
      exact v.1.1.2.2.2.2.1 t ht
  · exact v
theorem iv_wall {x : Int32} {b : Bool} (v : IV s h) : IV (sWall s x b) h := by
  unfold sWall
  split
  · next q =>
    have hc : isC s (ix x) = true := by
      have := q.1
      unfold cel at this
      rw [Bool.and_eq_true] at this
      exact this.2
    exact v.of' (v.1.1.wall hc bN_le1 (fun _ => q.2)) (fun c h1 => up_ne (by omega))
  · exact v
theorem iv_measure {k a b p q : Int32} (v : IV s h) : IV (sMeas s k a b p q) h := v.of' v.1.1.meas (fun c h1 => sMeas_o c (by omega))
theorem iv_thing {k c : Int32} (v : IV s h) : IV (sThing s k c) h := by
  unfold sThing
  split
  · next q =>
    have h0 := v.1.1.1
    unfold okThing at q
    rw [Bool.and_eq_true, Bool.and_eq_true, Bool.or_eq_true, decide_eq_true_eq, decide_eq_true_eq] at q
    obtain ⟨⟨q1, q2⟩, q3⟩ := q
    have hk := inR_ix q1 (by omega)
    refine v.of' (v.1.1.plusT (by omega) (by omega) (fun z => ?_) (fun z => ?_) (Or.inl rfl) (Or.inl rfl)) (fun g h1 => addT_f g (by omega) (by omega) (by omega) (by omega) (by omega) (by omega) (by omega) (by omega))
    · rw [z] at hk
      rw [if_pos hk.2]
    · have hne : ¬ k = nI 0 := fun y => by rw [y, ix_ok (by decide)] at z; omega
      rw [if_neg hne]
      rcases q2 with y | y
      · exact absurd y hne
      · rw [Bool.and_eq_true] at y
        obtain ⟨e, he, hce, hi⟩ := cel_of y.1
        have y2 := of_decide_eq_true y.2
        rw [hce, ix_ok (by omega)] at y2 ⊢
        exact ⟨he, fre_iff.mpr ⟨hi, y2⟩⟩
  · exact v
theorem inL7 {x : Int32} {l : Int} (h : inL x.toInt l 7 = true) (hl : 0 ≤ l) : ix x ≤ 7 := by
  have h1 := of_decide_eq_true h
  rcases arg_of x 8 (by decide) with ⟨c, hc, rfl⟩ | q
  · rw [ix_ok (by omega)]; omega
  · exact absurd ⟨by omega, by omega⟩ q
theorem iv_box {x xa ya xb yb : Int32} (v : IV s h) : IV (sBox s x xa ya xb yb) h := by
  unfold sBox
  split
  · next q =>
    obtain ⟨-, -, q⟩ := q
    unfold okBox at q
    rw [Bool.and_eq_true, Bool.and_eq_true, Bool.and_eq_true] at q
    obtain ⟨⟨q1, q2⟩, q3, q4⟩ := q
    have r1 := inR_ix q1 (by omega)
    have r2 := inR_ix q2 (by omega)
    have p1 : 0 ≤ xa.toInt := (of_decide_eq_true q1).1
    have p2 : 0 ≤ ya.toInt := (of_decide_eq_true q2).1
    refine v.of' (v.1.1.boxS (by omega) (by omega) (inL7 q3 p1) (inL7 q4 p2)) (fun c h1 => ?_)
    unfold boxS
    rw [up_ne (by omega), up_ne (by omega), up_ne (by omega), up_ne (by omega)]
  · exact v
theorem iv_loose {x : Int32} (v : IV s h) : IV (sLoose s x) h := by
  unfold sLoose
  split
  · obtain ⟨v1, v2, v3⟩ := v
    have e : ∀ g, g ≠ 18 → up s 18 (ix x) 1000 g = s g := fun g hg => up_ne hg
    have e18 : ∀ k, up s 18 (ix x) 1000 18 k = 1000 ∨ up s 18 (ix x) 1000 18 k = s 18 k := fun k => by
      unfold up
      split
      · exact Or.inl rfl
      · exact Or.inr rfl
    refine ⟨v1.of2 (v1.1.ag (fun c hc => e c (by omega)) (by rw [e 26 (by decide)]; exact ⟨rfl, rfl⟩)) (fun c hc => e c (by omega)) (fun k hk => ?_) (fun k hk => by rw [e 23 (by decide), e 24 (by decide)]; exact v1.2.2.2.1 k hk), fun k hk hz => ?_, fun k hk i hi => ?_⟩
    · rw [e 19 (by decide), e 20 (by decide), e 21 (by decide), e 22 (by decide)]
      have := v1.2.2.1 k hk
      rcases e18 k with z | z
      · exact ⟨Or.inl z, this.2⟩
      · rw [z]; exact this
    · rcases e18 k with z | z
      · rw [z] at hz; cases hz
      · rw [z] at hz
        rw [e 20 (by decide)]; exact v2 k hk hz
    · rw [e 23 (by decide)] at hi
      rw [e 24 (by decide)]; exact v3 k hk i hi
  · exact v
theorem iv_as {x z : Int32} (v : IV s h) : IV (sAs s x z) h := by
  unfold sAs
  repeat' split
  all_goals exact v.fl (by decide)
theorem fltOf_le {k z : Nat} : fltOf s k z ≤ 4 := by
  unfold fltOf
  repeat' split
  all_goals decide
theorem noC_le4 {k : Nat} {x : Int32} : noC s k x ≤ 4 := by
  unfold noC
  repeat' split
  all_goals decide
theorem iv_tell {x z : Int32} (v : IV s h) : IV (sTell s x z) h := by
  unfold sTell
  split
  · exact v.fl fltOf_le
  · exact v.fl (by decide)
theorem iv_greet {x z : Int32} (v : IV s h) : IV (sGreet s x z) h := by
  unfold sGreet
  split
  · exact v.fl fltOf_le
  · exact v.fl (by decide)
theorem iv_lose {x : Int32} (v : IV s h) : IV (sLose s x) h := by
  unfold sLose
  split
  · obtain ⟨v1, v2, v3⟩ := v
    have e : ∀ g, g ≠ 23 → up s 23 (ix x) 0 g = s g := fun g hg => up_ne hg
    have e23 : ∀ k, up s 23 (ix x) 0 23 k = 0 ∨ up s 23 (ix x) 0 23 k = s 23 k := fun k => by
      unfold up
      split
      · exact Or.inl rfl
      · exact Or.inr rfl
    refine ⟨v1.of2 (v1.1.ag (fun c hc => e c (by omega)) (by rw [e 26 (by decide)]; exact ⟨rfl, rfl⟩)) (fun c hc => e c (by omega)) (fun k hk => ?_) (fun k hk => ?_), fun k hk hz => ?_, fun k hk i hi => ?_⟩
    · rw [e 18 (by decide), e 19 (by decide), e 20 (by decide), e 21 (by decide), e 22 (by decide)]
      exact v1.2.2.1 k hk
    · rw [e 24 (by decide)]
      have := v1.2.2.2.1 k hk
      rcases e23 k with z | z
      · rw [z]; exact ⟨by decide, this.2⟩
      · rw [z]; exact this
    · rw [e 18 (by decide)] at hz
      rw [e 20 (by decide)]; exact v2 k hk hz
    · rw [e 24 (by decide)]
      rcases e23 k with z | z
      · rw [z] at hi; omega
      · rw [z] at hi; exact v3 k hk i hi
  · exact v
theorem IV.hh (v : IV s h) (hf : HFt s h') : IV s h' := ⟨v.1, v.2.1, hf⟩
theorem iv_lay {x y : Int32} {u : Int64} (v : IV s h) : IV (sLay s x y) (hLay s h x y u) := by
  have hf : HFt s (hLay s h x y u) := by
    unfold hLay
    split
    · intro k hk i hi
      show fitL _ (if k = ix x ∧ i = ix y then _ else _)
      split
      · next q => rw [q.1]; exact lcv_fit
      · exact v.2.2 k hk i hi
    · exact v.2.2
  have v' := v.hh hf
  unfold sLay
  split
  · exact v'.fl noC_le4
  · exact v'.fl (by decide)
theorem iv_cell {x y l : Int32} (v : IV s h) : IV (flt s (fCell s x y l)) h := by
  refine v.fl ?_
  unfold fCell
  split
  · split
    · decide
    · exact noC_le4
  · decide
theorem iv_sheet {x l n : Int32} (v : IV s h) : IV (sSheet s x l n) (hSheet h x l n) := by
  unfold sSheet hSheet
  split
  · next q =>
    refine IV.fl ?_ (by decide)
    unfold okSheet at q
    rw [Bool.and_eq_true, Bool.and_eq_true] at q
    obtain ⟨q1, q2, q3⟩ := q
    have r1 := inR_ix q1 (by omega)
    have r2 := inR_ix q2 (by omega)
    have r3 := inR_ix q3 (by omega)
    obtain ⟨v1, v2, v3⟩ := v
    have e : ∀ g, g ≠ 23 → g ≠ 24 → up (up s 23 (ix x) (ix n + 1)) 24 (ix x) (ix l) g = s g := fun g h1 h2 => by rw [up_ne h2, up_ne h1]
    have a1 : up (up s 23 (ix x) (ix n + 1)) 24 (ix x) (ix l) 23 (ix x) = ix n + 1 := by rw [up_ne (by decide), up_at]
    have a2 : up (up s 23 (ix x) (ix n + 1)) 24 (ix x) (ix l) 24 (ix x) = ix l := up_at
    have a3 : ∀ k, k ≠ ix x → up (up s 23 (ix x) (ix n + 1)) 24 (ix x) (ix l) 23 k = s 23 k := fun k hk => by
      rw [up_ne (by decide)]; exact if_neg (fun z => hk z.2)
    have a4 : ∀ k, k ≠ ix x → up (up s 23 (ix x) (ix n + 1)) 24 (ix x) (ix l) 24 k = s 24 k := fun k hk => by
      show (if _ then _ else _) = _
      rw [if_neg (fun z => hk z.2), up_ne (by decide)]
    generalize up (up s 23 (ix x) (ix n + 1)) 24 (ix x) (ix l) = S at e a1 a2 a3 a4 ⊢
    refine ⟨v1.of2 (v1.1.ag (fun c hc => e c (by omega) (by omega)) (by rw [e 26 (by decide) (by decide)]; exact ⟨rfl, rfl⟩)) (fun c hc => e c (by omega) (by omega)) (fun k hk => ?_) (fun k hk => ?_), fun k hk hz => ?_, fun k hk i hi => ?_⟩
    · rw [e 18 (by decide) (by decide), e 19 (by decide) (by decide), e 20 (by decide) (by decide), e 21 (by decide) (by decide), e 22 (by decide) (by decide)]
      exact v1.2.2.1 k hk
    · by_cases z : k = ix x
      · rw [z, a1, a2]; exact ⟨by omega, by omega⟩
      · rw [a3 k z, a4 k z]; exact v1.2.2.2.1 k hk
    · rw [e 18 (by decide) (by decide)] at hz
      rw [e 20 (by decide) (by decide)]; exact v2 k hk hz
    · show fitL _ (if k = ix x then 0 else h k i)
      by_cases z : k = ix x
      · rw [if_pos z]; exact fit_0
      · rw [if_neg z, a4 k z]
        rw [a3 k z] at hi
        exact v3 k hk i hi
  · refine v.fl ?_
    unfold fSheet
    split <;> decide
theorem IV.hold {k z n kd sm mo : Nat} (v : IV s h) (hz : z = 0 ∨ z = 1) (hn : n < 60) (hk : kd ≤ 4) (hk2 : z = 0 → kd ≤ 2) (hs : sm ≤ 200) (hm : mo = 1000 ∨ mo ≤ 200) : IV (holdS s k z n kd sm mo) h := by
  obtain ⟨v1, v2, v3⟩ := v
  have e : ∀ g, g < 18 ∨ 22 < g → holdS s k z n kd sm mo g = s g := fun g hg => by
    unfold holdS
    rw [up_ne (by omega), up_ne (by omega), up_ne (by omega), up_ne (by omega), up_ne (by omega)]
  have o : ∀ g j, j ≠ k → holdS s k z n kd sm mo g j = s g j := fun g j hj => by
    unfold holdS up
    rw [if_neg (fun q => hj q.2), if_neg (fun q => hj q.2), if_neg (fun q => hj q.2), if_neg (fun q => hj q.2), if_neg (fun q => hj q.2)]
  have a18 : holdS s k z n kd sm mo 18 k = z := by
    unfold holdS
    rw [up_ne (by decide), up_ne (by decide), up_ne (by decide), up_ne (by decide), up_at]
  have a19 : holdS s k z n kd sm mo 19 k = n := by
    unfold holdS
    rw [up_ne (by decide), up_ne (by decide), up_ne (by decide), up_at]
  have a20 : holdS s k z n kd sm mo 20 k = kd := by
    unfold holdS
    rw [up_ne (by decide), up_ne (by decide), up_at]
  have a21 : holdS s k z n kd sm mo 21 k = sm := by
    unfold holdS
    rw [up_ne (by decide), up_at]
  have a22 : holdS s k z n kd sm mo 22 k = mo := up_at
  generalize holdS s k z n kd sm mo = S at e o a18 a19 a20 a21 a22 ⊢
  refine ⟨v1.of2 (v1.1.ag (fun c hc => e c (by omega)) (by rw [e 26 (by decide)]; exact ⟨rfl, rfl⟩)) (fun c hc => e c (by omega)) (fun j hj => ?_) (fun j hj => by rw [e 23 (by decide), e 24 (by decide)]; exact v1.2.2.2.1 j hj), fun j hj hz0 => ?_, fun j hj i hi => ?_⟩
  · by_cases q : j = k
    · rw [q, a18, a19, a20, a21, a22]
      exact ⟨Or.inr hz, hn, hk, hs, hm⟩
    · rw [o _ _ q, o _ _ q, o _ _ q, o _ _ q, o _ _ q]
      exact v1.2.2.1 j hj
  · by_cases q : j = k
    · rw [q, a18] at hz0
      rw [q, a20]
      exact hk2 hz0
    · rw [o _ _ q] at hz0
      rw [o _ _ q]
      exact v2 j hj hz0
  · rw [e 23 (by decide)] at hi
    rw [e 24 (by decide)]
    exact v3 j hj i hi
theorem iv_hold {x z y : Int32} (v : IV s h) : IV (sHold s x z y) h := by
  have h0 := v.1.1.1
  unfold sHold
  split
  · next q =>
    unfold okHold at q
    rw [Bool.and_eq_true, Bool.and_eq_true] at q
    obtain ⟨q1, q2, q3⟩ := q
    by_cases e : z = nI 0
    · rw [if_pos e] at q3 ⊢
      have hy := inR_ix q3 (by omega)
      have ht := v.1.1.2.2.1 (ix y) hy.1
      refine v.hold (Or.inl rfl) (by omega) (by omega) (fun _ => ht.1) (by omega) ?_
      by_cases e0 : s 2 (ix y) = 0
      · exact Or.inl (ht.2.1 e0)
      · have := (ht.2.2.1 (by omega)).1
        exact Or.inr (by omega)
    · rw [if_neg e] at q3 ⊢
      have hy := inR_ix q3 (by omega)
      have ht := v.1.1.2.2.2.2.2.1 (ix y) hy.1
      exact v.hold (Or.inr rfl) (by omega) (by omega) (fun z => by omega) (by omega) (Or.inr (by omega))
  · exact v
theorem iv_field {x y : Int32} (v : IV s h) : IV (sField s x y) h := by
  unfold sField
  split
  · next q =>
    rw [Bool.and_eq_true] at q
    obtain ⟨W, w1, w2, rfl⟩ := in18_of q.1
    obtain ⟨H, g1, g2, rfl⟩ := in18_of q.2
    rw [ix_ok (by omega), ix_ok (by omega)]
    have e : ∀ g, g ≠ 0 → g ≠ 1 → g ≠ 5 → g ≠ 8 → g ≠ 26 → fieldS s W H g = s g := fun g n0 n1 n5 n8 n26 => by
      unfold fieldS fieldB
      rw [upR_ne n5, upR_ne n8, up_ne n26, up_ne n26, up_ne n0, up_ne n0, upR_ne n1, up_ne n0, up_ne n0]
    have f0 : ∀ i, fieldS s W H 0 i = if i = 3 then 0 else if i = 2 then 0 else if i = 1 then H else if i = 0 then W else s 0 i := fun i => by
      simp [fieldS, fieldB, upR, up]
    have f1 : ∀ c, c < 64 → fieldS s W H 1 c = 0 := fun c hc => by
      simp [fieldS, fieldB, upR, up, hc]
    have f8 : ∀ t, t < 24 → fieldS s W H 8 t = 1000 := fun c hc => by
      simp [fieldS, fieldB, upR, up, hc]
    have f26 : ∀ i, fieldS s W H 26 i = if i = 1 then 0 else if i = 0 then 0 else s 26 i := fun i => by
      simp [fieldS, fieldB, upR, up]
    have b4 := v.1.1.2.2.2.1
    have hB : SB (fieldS s W H) := by
      refine ⟨?_, fun c hc => ?_, fun t ht => ?_, fun i hi => ?_, fun t ht => Or.inl (f8 t ht), fun m hm => ?_, fun k hk => ?_⟩
      · rw [f0, f0, f0, f0, f26, f26]
        exact ⟨w1, w2, g1, g2, Nat.zero_le 24, Nat.zero_le 60, Nat.zero_le 3, Nat.zero_le 1⟩
      · rw [f1 c hc]; exact ⟨by decide, fun z => by cases z⟩
      · rw [f0] at ht; exact absurd ht (Nat.not_lt_zero _)
      · rw [e 4 (by decide) (by decide) (by decide) (by decide) (by decide)]; exact b4 i hi
      · rw [f0] at hm; exact absurd hm (Nat.not_lt_zero _)
      · rw [f26] at hk; exact absurd hk (Nat.not_lt_zero _)
    exact v.of hB (fun c h1 h2 => e c (by omega) (by omega) (by omega) (by omega) h2) (by rw [f26]; exact v.1.2.2.2.2.1) (by rw [f26]; exact v.1.2.2.2.2.2)
  · exact v
theorem mvS_hi {mv r : Nat} : ∀ t g, 15 ≤ g → mvS s mv r t g = s g
  | 0, _, _ => rfl
  | t + 1, g, hg => by
    have ih := mvS_hi (mv := mv) (r := r) t g hg
    have a := addT_f (s := mvS s mv r t) (k := 0) (a := 1000) (mo := mv) (ti := t) g (by omega) (by omega) (by omega) (by omega) (by omega) (by omega) (by omega) (by omega)
    unfold mvS
    split
    · rw [(addM_o).2.2.2.2.2.1 g (by omega) (by omega) (by omega) (by omega) (by omega) (by omega) (by omega), a, ih]
    · rw [a, ih]
theorem SB.mvU (hS : SB σ) (h3 : σ 26 0 < 3) (hc : σ 15 (σ 26 0) + σ 16 (σ 26 0) ≤ σ 0 2 ∧ 2 ≤ σ 16 (σ 26 0) ∧ σ 16 (σ 26 0) ≤ 8 ∧ σ 17 (σ 26 0) ≤ 98) : SB (up σ 26 0 (σ 26 0 + 1)) := by
  have e : ∀ g, g ≠ 26 → up σ 26 0 (σ 26 0 + 1) g = σ g := fun g hg => up_ne hg
  have e0 : up σ 26 0 (σ 26 0 + 1) 26 0 = σ 26 0 + 1 := up_at
  have e1 : up σ 26 0 (σ 26 0 + 1) 26 1 = σ 26 1 := if_neg (by decide)
  unfold SB fre isC
  rw [e 0 (by decide), e 1 (by decide), e 2 (by decide), e 3 (by decide), e 4 (by decide), e 5 (by decide), e 6 (by decide), e 7 (by decide), e 8 (by decide), e 9 (by decide), e 10 (by decide), e 11 (by decide), e 12 (by decide), e 13 (by decide), e 14 (by decide), e 15 (by decide), e 16 (by decide), e 17 (by decide), e0, e1]
  obtain ⟨⟨b1, b2, b3, b4, b5, b6, b7, b8⟩, a2, a3, a4, a5, a6, a7⟩ := hS
  refine ⟨⟨b1, b2, b3, b4, b5, b6, by omega, b8⟩, a2, a3, a4, a5, a6, fun k hk => ?_⟩
  by_cases q : k = σ 26 0
  · rw [q]; exact hc
  · exact a7 k (by omega)
theorem iv_mover {x y : Int32} (v : IV s h) : IV (sMover s x y) h := by
  have h0 := v.1.1.1
  unfold sMover
  split
  · next q =>
    obtain ⟨q1, q2⟩ := q
    rw [Bool.and_eq_true] at q1
    obtain ⟨n, n1, n2, rfl⟩ := in28_of q1.1
    have hy := inR_ix q1.2 (by omega)
    rw [ix_ok (by omega)] at q2 ⊢
    unfold fullM at q2
    rw [Bool.or_eq_false_iff, Bool.or_eq_false_iff] at q2
    have q3 := of_decide_eq_false q2.1
    have q4 := of_decide_eq_false q2.2.1
    have q5 := of_decide_eq_false q2.2.2
    obtain ⟨t, rfl⟩ : ∃ t, n = t + 1 := ⟨n - 1, by omega⟩
    unfold moverS
    have m3 := v.1.1.mvr (n := t + 1) (r := ix y)
    obtain ⟨p1, p2, p3, p4⟩ := mv3_at (s := s) (n := t + 1) (r := ix y)
    have z0 : mv3 s (t + 1) (ix y) 0 = s 0 := mv3_ne (by omega)
    have z26 : mv3 s (t + 1) (ix y) 26 = s 26 := mv3_ne (by omega)
    have hhi : ∀ g, 18 ≤ g → mv3 s (t + 1) (ix y) g = s g := fun g hg => mv3_ne (by omega)
    generalize mv3 s (t + 1) (ix y) = M at m3 p1 p2 p3 p4 z0 z26 hhi ⊢
    have hn := mvS_n (s := M) (mv := s 26 0) (r := ix y) (t + 1)
    have hi := mvS_hi (s := M) (mv := s 26 0) (r := ix y) (t + 1)
    have hB : SB (mvS M (s 26 0) (ix y) (t + 1)) := by
      rw [mvS_eq]
      have t1 := m3.tns (mv := s 26 0) (by omega) (t + 1) (by omega) (by rw [z0]; omega)
      exact t1.mns (by omega) t (by rw [(tnS_n (t + 1)).1]; omega) (by rw [(tnS_n (t + 1)).2.1, z0]; omega)
    generalize mvS M (s 26 0) (ix y) (t + 1) = N at hn hi hB ⊢
    obtain ⟨n1', n2', n3'⟩ := hn
    have e26 : N 26 0 = s 26 0 := by rw [n3', z26]
    have hB2 := hB.mvU (by rw [e26]; omega) (by rw [e26, hi 15 (by decide), hi 16 (by decide), hi 17 (by decide), p1, p2, p3, n1', z0]; omega)
    rw [e26] at hB2
    refine v.of hB2 (fun c h1 h2 => by rw [up_ne h2, hi c (by omega), hhi c h1]) ?_ ?_
    · rw [show up N 26 0 (s 26 0 + 1) 26 3 = N 26 3 from if_neg (by decide), n3', z26]; exact v.1.2.2.2.2.1
    · rw [show up N 26 0 (s 26 0 + 1) 26 2 = N 26 2 from if_neg (by decide), n3', z26]; exact v.1.2.2.2.2.2
  · exact v
theorem fCopy_le {x i y j n : Int32} : fCopy s x i y j n ≤ 4 := by
  unfold fCopy
  repeat' split
  all_goals decide
theorem iv_copy {x i y j n : Int32} (v : IV s h) : IV (sCopyS s x i y j n) (hCopy s h x i y j n) := by
  have hf : HFt s (hCopy s h x i y j n) := by
    unfold hCopy
    split
    · next q =>
      obtain ⟨q1, q2⟩ := q
      rw [Bool.and_eq_true] at q1
      have hx := inR_ix q1.1 (by omega)
      have hy := inR_ix q1.2 (by omega)
      unfold fCopy at q2
      split at q2
      · cases q2
      · next u1 =>
        split at q2
        · cases q2
        · next u2 =>
          split at q2
          · cases q2
          · next u3 =>
            rw [Bool.or_eq_true, not_or] at u3
            obtain ⟨u3, u4⟩ := u3
            have sx := v.1.2.2.2.1 (ix x) hx.1
            have sy := v.1.2.2.2.1 (ix y) hy.1
            unfold beyond at u3 u4
            simp only [Bool.or_eq_true, decide_eq_true_eq, not_or, Int.not_lt] at u3 u4
            intro k hk z hz
            show fitL _ (if k = ix y ∧ ix j ≤ z ∧ z < ix j + ix n then _ else _)
            split
            · next c =>
              obtain ⟨c1, c2, c3⟩ := c
              have u2' : s 24 (ix x) = s 24 (ix y) := Classical.byContradiction u2
              rw [c1, ← u2']
              rcases arg_of i 65 (by decide) with ⟨i', hi', rfl⟩ | bad
              · rcases arg_of n 65 (by decide) with ⟨n', hn', rfl⟩ | bad
                · rw [ix_ok (by omega)] at c3 ⊢
                  rw [nI_toInt (by omega), nI_toInt (by omega)] at u3
                  exact v.2.2 (ix x) hx.1 _ (by omega)
                · exact absurd ⟨by omega, by omega⟩ bad
              · exact absurd ⟨by omega, by omega⟩ bad
            · exact v.2.2 k hk z hz
    · exact v.2.2
  have v' := v.hh hf
  unfold sCopyS
  split
  · exact v'.fl fCopy_le
  · exact v'.fl (by decide)
theorem iv_plan {k l i : Int32} (v : IV s h) : IV (sPlan s h k l i) h := by
  unfold sPlan
  split
  · split
    · next q =>
      refine IV.fl ?_ (by decide)
      exact v.of' (v.1.1.plan q.2) (fun c h1 => planX_ne (by omega))
    · refine v.fl ?_
      unfold fPlan
      repeat' split
      all_goals decide
  · exact v.fl (by decide)
theorem iv_rows {k z : Nat} {i n : Int32} : ∀ f come s, IV s h → IV (rows h k z i n f come s).2.2 h ∧ (rows h k z i n f come s).2.1 ≤ 4
  | 0, come, s, v => ⟨v, by show 0 ≤ 4; decide⟩
  | f + 1, come, s, v => by
    unfold rows
    split
    · split
      · exact ⟨v, by show 3 ≤ 4; decide⟩
      · split
        · exact ⟨iv_measure v, by show 0 ≤ 4; decide⟩
        · exact iv_rows f (come + 1) _ (iv_measure v)
    · exact ⟨v, by show 0 ≤ 4; decide⟩
theorem iv_measures {k l i n : Int32} (v : IV s h) : IV (sRows s h k l i n) h := by
  unfold sRows
  split
  · split
    · have := iv_rows (h := h) (k := ix k) (z := s 23 (ix k) - 1) (i := i) (n := n) 13 0 s v
      exact this.1.fl this.2
    · refine v.fl ?_
      unfold fRows
      repeat' split
      all_goals decide
  · exact v.fl (by decide)
theorem trn_ok {y a c : Nat} (hS : SB s) : trn s y a c = 1000 ∨ (trn s y a c < 64 ∧ isC s (trn s y a c) = true) := by
  have h0 := hS.1
  unfold trn
  split
  · next q =>
    right
    generalize trX y a c = X at q ⊢
    generalize trY y a c = Y at q ⊢
    rw [isC_iff]
    omega
  · exact Or.inl rfl
theorem iv_flipped {x i : Int32} (v : IV s h) : IV (sFlipped s x i) h := by
  unfold sFlipped
  split
  · refine v.of' (v.1.1.mp (fun g hg => mpU_ne hg) fun t ht => ?_) (fun c h1 => mpU_ne (by omega))
    show (if 8 = 8 ∧ _ then _ else _) = 1000 ∨ (t < s 0 2 ∧ (if 8 = 8 ∧ _ then _ else _) < 64 ∧ isC s (if 8 = 8 ∧ _ then _ else _) = true)
    split
    · next q =>
      have q2 := q.2
      rw [Bool.and_eq_true, decide_eq_true_eq] at q2
      rcases trn_ok (y := (flAt s (ix x) (ix i)).2.2.1) (a := s 8 (flAt s (ix x) (ix i)).1) (c := s 8 t) v.1.1 with z | z
      · exact Or.inl z
      · exact Or.inr ⟨q2.1, z⟩
    · exact v.1.1.2.2.2.2.1 t ht
  · exact v
/-- every placing's cells are in their domains -/
def PD (dom : Nat → Nat → Bool) (n : Nat) (st : ST) : Prop := ∀ p ∈ st.2.1, ∀ i, i < n → p i < 64 ∧ dom i (p i) = true
theorem sC_pd {dom : Nat → Nat → Bool} {ok : Nat → (Nat → Nat) → Nat → Bool} {n : Nat} {F : (Nat → Nat) → ST → ST} {i : Nat} {a : Nat → Nat} (ha : ∀ j, j < i → a j < 64 ∧ dom j (a j) = true) (hF : ∀ a st, (∀ j, j < i + 1 → a j < 64 ∧ dom j (a j) = true) → PD dom n st → PD dom n (F a st)) : ∀ m c st, c + m = 64 → PD dom n st → PD dom n (sC dom ok F i a m c st)
  | 0, _, _, _, h => h
  | m + 1, c, st, hc, h => by
    unfold sC
    split
    · exact h
    · split
      · next qd =>
        split
        · exact h
        · refine sC_pd ha hF m (c + 1) _ (by omega) ?_
          split
          · refine hF _ _ (fun j hj => ?_) h
            unfold sUp
            split
            · next e => rw [e]; exact ⟨by omega, qd⟩
            · exact ha j (by omega)
          · exact h
      · exact sC_pd ha hF m (c + 1) st (by omega) h
theorem sL_pd {dom : Nat → Nat → Bool} {ok : Nat → (Nat → Nat) → Nat → Bool} {n : Nat} : ∀ k i a st, i + k = n → (∀ j, j < i → a j < 64 ∧ dom j (a j) = true) → PD dom n st → PD dom n (sL dom ok k i a st)
  | 0, i, a, st, hk, ha, h => fun p hp j hj => by
    have hp : p ∈ st.2.1 ++ [a] := hp
    rw [List.mem_append] at hp
    rcases hp with q | q
    · exact h p q j hj
    · rw [List.mem_singleton] at q
      rw [q]
      exact ha j (by omega)
  | k + 1, i, a, st, hk, ha, h => sC_pd ha (fun a st ha h => sL_pd k (i + 1) a st (by omega) ha h) 64 0 st rfl h
theorem srch_pd {t : Nat} : PD (domS s (grp s t)) (ct (grp s t) (s 0 2)) (srch s t) := by
  unfold srch
  split
  · exact fun p hp => absurd hp List.not_mem_nil
  · exact sL_pd _ _ _ _ (by omega) (fun j hj => absurd hj (Nat.not_lt_zero _)) (fun p hp => absurd hp List.not_mem_nil)
theorem told_C {t c : Nat} (hS : SB s) (ht : t < s 0 2) (h : told s t c = true) : isC s c = true := by
  unfold told at h
  split at h
  · rw [Bool.and_eq_true] at h
    exact (fre_iff.mp h.1).1
  · next q =>
    have e := of_decide_eq_true h
    rw [e]
    exact (fre_iff.mp ((hS.2.2.1 t ht).2.2.1 (by omega)).2).1
theorem iv_take {x n : Int32} (v : IV s h) : IV (sTake s x n) h := by
  have h0 := v.1.1.1
  unfold sTake
  split
  · next q =>
    unfold okT at q
    rw [Bool.and_eq_true, Bool.and_eq_true, Bool.and_eq_true] at q
    obtain ⟨⟨q1, q2⟩, q3, q4⟩ := q
    have hx := inR_ix q1 (by omega)
    refine v.of' (v.1.1.mp (fun g hg => mpU_ne hg) fun t ht => ?_) (fun c h1 => mpU_ne (by omega))
    show (if 8 = 8 ∧ _ then _ else _) = 1000 ∨ (t < s 0 2 ∧ (if 8 = 8 ∧ _ then _ else _) < 64 ∧ isC s (if 8 = 8 ∧ _ then _ else _) = true)
    split
    · next z =>
      have z2 := z.2
      rw [Bool.and_eq_true, decide_eq_true_eq] at z2
      have hlen : ix n < (pls s (ix x)).length := by
        have hso := (srch_ok (s := s) hx.1).1
        have hl : (pls s (ix x)).length ≤ 60000 := Nat.le_trans hso.2 hso.1
        exact (inR_ix q4 (by omega)).1
      have hmem : nthp s (ix x) (ix n) ∈ (srch s (ix x)).2.1 := by
        unfold nthp
        rw [List.getD_eq_getElem?_getD, List.getElem?_eq_getElem hlen]
        exact List.getElem_mem hlen
      have hg : gP s (ix x) t < ct (grp s (ix x)) (s 0 2) := ct_nlt z2.1 z2.2
      obtain ⟨r1, r2⟩ := srch_pd _ hmem _ hg
      unfold domS at r2
      have hm : mbr (grp s (ix x)) (s 0 2) (gP s (ix x) t) = t := mbr_ct z2.1 z2.2
      rw [hm] at r2
      exact Or.inr ⟨z2.1, r1, told_C v.1.1 z2.1 (nar_sub v.1.1 z2.1 r1 r2)⟩
    · exact v.1.1.2.2.2.2.1 t ht
  · exact v
theorem iv_placings {x : Int32} (v : IV s h) : IV (sPlac s x) h := by
  have h0 := v.1.1.1
  unfold sPlac
  split
  · next q =>
    have hx := inR_ix q (by omega)
    have hso := (srch_ok (s := s) hx.1).1
    exact v.of (v.1.1.ag (fun c hc => up_ne (by omega)) ⟨if_neg (by decide), if_neg (by decide)⟩) (fun c _ hc => up_ne hc) (by rw [show up s 26 2 (srch s (ix x)).1 26 3 = s 26 3 from if_neg (by decide)]; exact v.1.2.2.2.2.1) (by rw [up_at]; exact hso.1)
  · exact v
theorem iv_keep {x : Int32} (v : IV s h) : IV (sKeep s x) h := by
  unfold sKeep
  split
  · next q =>
    have hx := inR_ix q (by omega)
    generalize ix x = k at hx ⊢
    obtain ⟨v1, v2, v3⟩ := v
    have lo : ∀ c, c < 25 ∨ (26 ≤ c ∧ c < 32) → kpS s k c = s c := fun c hc => kpS_lo hc
    have hB : SB (kpS s k) := v1.1.ag (fun c hc => lo c (by omega)) (by rw [lo 26 (by omega)]; exact ⟨rfl, rfl⟩)
    refine ⟨⟨hB, fun j hj => ?_, fun j hj => ?_, fun j hj => ?_, by rw [lo 26 (by omega)]; exact v1.2.2.2.2.1, by rw [lo 26 (by omega)]; exact v1.2.2.2.2.2⟩, fun j hj => ?_, fun j hj i hi => ?_⟩
    · by_cases e : j = k
      · subst e
        have h25 : kpS s j 25 j = 1 := if_pos ⟨rfl, rfl⟩
        have him : ∀ g i, g < 32 → img j (kpS s j) g i = kpv s g i := fun g i hg => by
          show (if _ then _ else if _ then _ else _) = _
          rw [if_neg (by omega), if_pos (by omega), Nat.add_sub_cancel_left]
        refine ⟨by rw [h25]; decide, fun _ => v1.1.fg (fun g h1 h2 => ?_) ⟨?_, ?_⟩ (fun t ht => ?_) (fun m hm => ?_)⟩
        · funext i
          rw [him g i (by omega), kpv_ne h2]
        · rw [him 26 0 (by decide), kpv_ne (by decide)]
        · rw [him 26 1 (by decide), kpv_ne (by decide)]
        · rw [him 5 t (by decide)]
          show (if _ then _ else _) = _
          rw [if_pos (by decide), bz_1 (v1.1.2.2.1 t ht).2.2.2.1]
        · rw [him 14 m (by decide)]
          show (if _ then _ else _) = _
          rw [if_pos (by decide), bz_1 (v1.1.2.2.2.2.2.1 m hm).2.2.2.2.2.2.1]
      · have h25 : kpS s k 25 j = s 25 j := by
          show (if _ then _ else if _ then _ else _) = _
          rw [if_neg (fun z => e z.2), if_neg (by omega)]
        have a2 := v1.2.1 j hj
        refine ⟨by rw [h25]; exact a2.1, fun z => ?_⟩
        rw [h25] at z
        have him : ∀ g, g < 32 → img j (kpS s k) g = img j s g := fun g hg => by
          funext i
          show (if _ then _ else if _ then _ else _) = _
          rw [if_neg (by omega), if_neg (by omega)]
          rfl
        exact (a2.2 z).ag (fun c hc => him c (by omega)) (by rw [him 26 (by decide)]; exact ⟨rfl, rfl⟩)
    · rw [lo 18 (by omega), lo 19 (by omega), lo 20 (by omega), lo 21 (by omega), lo 22 (by omega)]
      exact v1.2.2.1 j hj
    · rw [lo 23 (by omega), lo 24 (by omega)]
      exact v1.2.2.2.1 j hj
    · rw [lo 18 (by omega), lo 20 (by omega)]
      exact v2 j hj
    · rw [lo 23 (by omega)] at hi
      rw [lo 24 (by omega)]
      exact v3 j hj i hi
  · exact v
theorem iv_back {x : Int32} (v : IV s h) : IV (sBack s x) h := by
  unfold sBack
  split
  · next q =>
    unfold okB at q
    rw [Bool.and_eq_true, decide_eq_true_eq] at q
    have hx := inR_ix q.1 (by omega)
    have hi := (v.1.2.1 (ix x) hx.1).2 q.2
    have e3 : bkS s (ix x) 26 3 = s 26 3 := if_neg (by decide)
    have e2 : bkS s (ix x) 26 2 = s 26 2 := if_neg (by decide)
    exact v.of hi.bk (fun c h1 h2 => bkS_hi h1 h2) (by rw [e3]; exact v.1.2.2.2.2.1) (by rw [e2]; exact v.1.2.2.2.2.2)
  · exact v
theorem iv_s0 : IV s0 h0' := by
  have z : ∀ c i, ¬ (c = 0 ∧ i ≤ 1) → ¬ (c = 8 ∨ c = 18) → s0 c i = 0 := fun c i h1 h2 => by
    unfold s0
    rw [if_neg h1, if_neg h2]
  have a8 : ∀ i, s0 8 i = 1000 := fun i => rfl
  have a18 : ∀ i, s0 18 i = 1000 := fun i => rfl
  have a02 : s0 0 2 = 0 := rfl
  have a03 : s0 0 3 = 0 := rfl
  have hB : SB s0 := by
    refine ⟨by decide, fun c hc => ?_, fun t ht => ?_, fun i hi => ?_, fun t ht => Or.inl rfl, fun m hm => ?_, fun k hk => ?_⟩
    · rw [z 1 c (by omega) (by omega)]; exact ⟨by decide, fun y => by cases y⟩
    · rw [a02] at ht; omega
    · rw [z 4 i (by omega) (by omega)]; decide
    · rw [a03] at hm; omega
    · rw [z 26 0 (by omega) (by omega)] at hk; omega
  refine ⟨⟨hB, fun k hk => ?_, fun k hk => ?_, fun k hk => ?_, by decide, by decide⟩, fun k hk y => ?_, fun k hk i hi => ?_⟩
  · rw [z 25 k (by omega) (by omega)]; exact ⟨by decide, fun y => by cases y⟩
  · rw [a18, z 19 k (by omega) (by omega), z 20 k (by omega) (by omega), z 21 k (by omega) (by omega), z 22 k (by omega) (by omega)]; decide
  · rw [z 23 k (by omega) (by omega), z 24 k (by omega) (by omega)]; decide
  · rw [a18] at y; cases y
  · rw [z 23 k (by omega) (by omega)] at hi; omega
end
