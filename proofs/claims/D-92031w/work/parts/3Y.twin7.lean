/-! plan, in the reference -/
def cl8 (W n : Nat) : Nat := 8 * (n / W) + n % W
theorem cl8_of {W H n : Nat} (h1 : 1 ≤ W) (h2 : W ≤ 8) (h3 : H ≤ 8) (hn : n < W * H) : cl8 W n < 64 ∧ cl8 W n % 8 = n % W ∧ cl8 W n / 8 = n / W ∧ n % W < W ∧ n / W < H ∧ cl8 W n / 8 * W + cl8 W n % 8 = n := by
  unfold cl8
  rcases (show W = 1 ∨ W = 2 ∨ W = 3 ∨ W = 4 ∨ W = 5 ∨ W = 6 ∨ W = 7 ∨ W = 8 by omega) with rfl | rfl | rfl | rfl | rfl | rfl | rfl | rfl <;> refine ⟨?_, ?_, ?_, ?_, ?_, ?_⟩ <;> omega
theorem cl8_inv {W H c : Nat} (h1 : 1 ≤ W) (h2 : W ≤ 8) (hc1 : c % 8 < W) (hc2 : c / 8 < H) : c / 8 * W + c % 8 < W * H ∧ cl8 W (c / 8 * W + c % 8) = c := by
  unfold cl8
  rcases (show W = 1 ∨ W = 2 ∨ W = 3 ∨ W = 4 ∨ W = 5 ∨ W = 6 ∨ W = 7 ∨ W = 8 by omega) with rfl | rfl | rfl | rfl | rfl | rfl | rfl | rfl <;> refine ⟨?_, ?_⟩ <;> omega
def planX (s : SGT) (h : Nat → Nat → Int64) (k I n : Nat) : SGT := fun f c => if f = 1 ∧ isC s c = true ∧ c / 8 * s 0 0 + c % 8 < n then (if h k (I + (c / 8 * s 0 0 + c % 8)) = 0 then 0 else 1) else s f c
def planS (s : SGT) (h : Nat → Nat → Int64) (k I : Nat) : SGT := planX s h k I (s 0 0 * s 0 1)
def pBad (s : SGT) (h : Nat → Nat → Int64) (k I : Nat) : Bool := (List.range (s 0 0 * s 0 1)).any (fun x => decide (¬ h k (I + x) = 0) && anch s (cl8 (s 0 0) x))
theorem planX_ne {s : SGT} {h : Nat → Nat → Int64} {k I n f : Nat} (hf : f ≠ 1) : planX s h k I n f = s f := by
  funext c
  exact if_neg (fun q => hf q.1)
theorem planX_0 {s : SGT} {h : Nat → Nat → Int64} {k I : Nat} : planX s h k I 0 = s := by
  funext f c
  exact if_neg (fun q => absurd q.2.2 (by omega))
theorem planX_s {s : SGT} {h : Nat → Nat → Int64} {k I n : Nat} (hS : SB s) (hn : n < s 0 0 * s 0 1) : up (planX s h k I n) 1 (cl8 (s 0 0) n) (if h k (I + n) = 0 then 0 else 1) = planX s h k I (n + 1) := by
  have h0 := hS.1
  obtain ⟨c1, c2, c3, c4, c5, c6⟩ := cl8_of h0.1 h0.2.1 h0.2.2.2.1 hn
  funext f c
  unfold up planX
  by_cases e : f = 1 ∧ c = cl8 (s 0 0) n
  · obtain ⟨e1, e2⟩ := e
    subst e2
    have hcond : f = 1 ∧ isC s (cl8 (s 0 0) n) = true ∧ cl8 (s 0 0) n / 8 * s 0 0 + cl8 (s 0 0) n % 8 < n + 1 := ⟨e1, isC_iff.mpr ⟨c1, by omega, by omega⟩, by omega⟩
    have hcon2 : f = 1 ∧ cl8 (s 0 0) n = cl8 (s 0 0) n := ⟨e1, rfl⟩
    rw [if_pos hcon2, if_pos hcond, c6]
  · rw [if_neg e]
    by_cases e1 : f = 1 ∧ isC s c = true ∧ c / 8 * s 0 0 + c % 8 < n
    · have e4 : f = 1 ∧ isC s c = true ∧ c / 8 * s 0 0 + c % 8 < n + 1 := ⟨e1.1, e1.2.1, by omega⟩
      rw [if_pos e1, if_pos e4]
    · rw [if_neg e1, if_neg]
      rintro ⟨q1, q2, q3⟩
      have hq := isC_iff.mp q2
      have := (cl8_inv (H := s 0 1) h0.1 h0.2.1 hq.2.1 hq.2.2).2
      by_cases e3 : c / 8 * s 0 0 + c % 8 = n
      · rw [e3] at this
        exact e ⟨q1, this.symm⟩
      · exact e1 ⟨q1, q2, by omega⟩
theorem SB.plan {s : SGT} {h : Nat → Nat → Int64} {k I : Nat} (hS : SB s) (hb : pBad s h k I = false) : SB (planS s h k I) := by
  have e : ∀ g, g ≠ 1 → planS s h k I g = s g := fun g hg => planX_ne hg
  have e1 : isC (planS s h k I) = isC s := isC_agr (by rw [e 0 (by decide)]) (by rw [e 0 (by decide)])
  have hw : ∀ c, planS s h k I 1 c ≤ 1 ∨ planS s h k I 1 c = s 1 c := fun c => by
    unfold planS planX
    split
    · split <;> omega
    · exact Or.inr rfl
  have h0 := hS.1
  obtain ⟨h1, h2, h3, h4, h5, h6, h7⟩ := id hS
  have hfre : ∀ t, t < s 0 2 → 0 < s 2 t → fre (planS s h k I) (s 3 t) = true := by
    intro t ht hk
    obtain ⟨g1, g2⟩ := (h3 t ht).2.2.1 hk
    have g3 := fre_iff.mp g2
    have g4 := isC_iff.mp g3.1
    refine fre_iff.mpr ⟨by rw [e1]; exact g3.1, ?_⟩
    unfold planS planX
    split
    · next q =>
      split
      · rfl
      · next q2 =>
        exfalso
        obtain ⟨i1, i2⟩ := cl8_inv (H := s 0 1) h0.1 h0.2.1 g4.2.1 g4.2.2
        have ha : anch s (s 3 t) = true := by
          unfold anch
          rw [List.any_eq_true]
          exact ⟨t, List.mem_range.mpr ht, by simp [hk]⟩
        have hbad : pBad s h k I = true := by
          unfold pBad
          rw [List.any_eq_true]
          refine ⟨s 3 t / 8 * s 0 0 + s 3 t % 8, List.mem_range.mpr i1, ?_⟩
          rw [i2, ha, Bool.and_true]
          exact decide_eq_true q2
        rw [hbad] at hb
        cases hb
    · exact g3.2
  unfold SB
  rw [e1, e 0 (by decide), e 2 (by decide), e 3 (by decide), e 4 (by decide), e 5 (by decide), e 6 (by decide), e 7 (by decide), e 8 (by decide), e 9 (by decide), e 10 (by decide), e 11 (by decide), e 12 (by decide), e 13 (by decide), e 14 (by decide), e 15 (by decide), e 16 (by decide), e 17 (by decide), e 26 (by decide)]
  refine ⟨h1, fun c hc => ⟨?_, fun q => ?_⟩, fun t ht => ⟨(h3 t ht).1, (h3 t ht).2.1, fun hk => ⟨((h3 t ht).2.2.1 hk).1, hfre t ht hk⟩, (h3 t ht).2.2.2⟩, h4, h5, h6, h7⟩
  · rcases hw c with q | q
    · exact q
    · rw [q]; exact (h2 c hc).1
  · unfold planS planX at q
    split at q
    · next q2 => exact q2.2.1
    · exact (h2 c hc).2 q
def fPlan (s : SGT) (k l i : Int32) : Nat := if ¬ s 23 (ix k) = 0 ∧ ¬ s 24 (ix k) = ix l then 2 else if s 23 (ix k) = 0 then 1 else if beyond i ((s 0 0 * s 0 1 : Nat) : Int) (s 23 (ix k) - 1 : Nat) = true then 3 else 0
def aPlan (s : SGT) (h : Nat → Nat → Int64) (k l i : Int32) : Int32 := if inR k 4 = true then (if inR l 4 = true then (if fPlan s k l i = 0 then (if pBad s h (ix k) (ix i) = true then -3 else nI (ct (fre (planS s h (ix k) (ix i))) 64)) else -10 - nI (fPlan s k l i)) else -2) else -1
def sPlan (s : SGT) (h : Nat → Nat → Int64) (k l i : Int32) : SGT := if inR k 4 = true ∧ inR l 4 = true then (if fPlan s k l i = 0 ∧ pBad s h (ix k) (ix i) = false then flt (planS s h (ix k) (ix i)) 0 else flt s (fPlan s k l i)) else flt s 0
