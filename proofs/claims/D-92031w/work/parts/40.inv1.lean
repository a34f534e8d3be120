/-! what stays right of a desk's numbers -/
theorem SB.plusM {s : SGT} {k a b p q : Nat} (hS : SB s) (hn : s 0 3 < 60) (hk : k ≤ 4) (ha : a < s 0 2) (hb : b < s 0 2) (hab : a ≠ b) (hp : (if k = 1 ∨ k = 2 then 0 else p) ≤ 98) (hq : (if k = 3 then 0 else q) ≤ 98) (h3 : k = 3 → p ≤ 3) : SB (addM s k a b p q) := by
  obtain ⟨o1, o2, o3, o4, o5, o6, o7⟩ := addM_o (s := s) (k := k) (a := a) (b := b) (p := p) (q := q)
  have e : ∀ f, f ≠ 0 → (f < 9 ∨ 14 < f) → addM s k a b p q f = s f := fun f n0 hf => o6 f n0 (by omega) (by omega) (by omega) (by omega) (by omega) (by omega)
  have eC : isC (addM s k a b p q) = isC s := isC_agr (o5 0 (by decide)) (o5 1 (by decide))
  have eF : fre (addM s k a b p q) = fre s := fre_agr (o5 0 (by decide)) (o5 1 (by decide)) (e 1 (by decide) (by decide))
  have v9 : addM s k a b p q 9 (s 0 3) = k := by unfold addM; rw [up_ne (by decide), up_ne (by decide), up_ne (by decide), up_ne (by decide), up_ne (by decide), up_ne (by decide), up_at]
  have v10 : addM s k a b p q 10 (s 0 3) = a := by unfold addM; rw [up_ne (by decide), up_ne (by decide), up_ne (by decide), up_ne (by decide), up_ne (by decide), up_at]
  have v11 : addM s k a b p q 11 (s 0 3) = b := by unfold addM; rw [up_ne (by decide), up_ne (by decide), up_ne (by decide), up_ne (by decide), up_at]
  have v12 : addM s k a b p q 12 (s 0 3) = (if k = 1 ∨ k = 2 then 0 else p) := by unfold addM; rw [up_ne (by decide), up_ne (by decide), up_ne (by decide), up_at]
  have v13 : addM s k a b p q 13 (s 0 3) = (if k = 3 then 0 else q) := by unfold addM; rw [up_ne (by decide), up_ne (by decide), up_at]
  have v14 : addM s k a b p q 14 (s 0 3) = 1 := by unfold addM; rw [up_ne (by decide), up_at]
  obtain ⟨h1, h2, h3', h4, h5, h6, h7⟩ := hS
  unfold SB
  rw [eC, eF, o4, o5 0 (by decide), o5 1 (by decide), o5 2 (by decide), e 1 (by decide) (by decide), e 2 (by decide) (by decide), e 3 (by decide) (by decide), e 4 (by decide) (by decide), e 5 (by decide) (by decide), e 6 (by decide) (by decide), e 7 (by decide) (by decide), e 8 (by decide) (by decide), e 15 (by decide) (by decide), e 16 (by decide) (by decide), e 17 (by decide) (by decide), e 26 (by decide) (by decide)]
  refine ⟨by omega, h2, h3', h4, h5, fun m hm => ?_, h7⟩
  by_cases em : m = s 0 3
  · subst em
    rw [v9, v10, v11, v12, v13, v14]
    refine ⟨hk, ha, hb, hab, hp, hq, by decide, fun w => if_pos w, fun w => ⟨?_, if_pos w⟩⟩
    rw [if_neg (by omega)]
    exact h3 w
  · rw [o7 9 m em (by decide), o7 10 m em (by decide), o7 11 m em (by decide), o7 12 m em (by decide), o7 13 m em (by decide), o7 14 m em (by decide)]
    exact h6 m (by omega)
theorem SB.meas {s : SGT} {k a b p q : Int32} (hS : SB s) : SB (sMeas s k a b p q) := by
  have h0 := hS.1
  unfold sMeas
  split
  · next ho =>
    unfold okMeas at ho
    rw [Bool.and_eq_true, Bool.and_eq_true, Bool.and_eq_true, Bool.and_eq_true, decide_eq_true_eq, decide_eq_true_eq] at ho
    obtain ⟨⟨⟨qa, qb⟩, qe, qm⟩, q6⟩ := ho
    obtain ⟨k', hk, rfl, hp, hq⟩ := mayM_of qm
    rcases inR_of (x := a) (n := s 0 2) (by omega) with ⟨a', ha, rfl, -⟩ | q
    · rcases inR_of (x := b) (n := s 0 2) (by omega) with ⟨b', hb, rfl, -⟩ | q
      · rw [ix_ok (by omega), ix_ok (by omega), ix_ok (by omega)]
        have hin : ∀ n x, n ≤ 100 → inR x n = true → ix x < n := fun n x hn hx => by
          rcases inR_of (x := x) (n := n) (by omega) with ⟨c, hc, rfl, -⟩ | q
          · rw [ix_ok (by omega)]; exact hc
          · rw [q] at hx; cases hx
        have hil : ∀ (z : Int) (x : Int32), 0 ≤ z → inL x.toInt z 98 = true → ix x < 99 := fun z x hz hx => by
          have := of_decide_eq_true hx
          exact hin 99 x (by decide) (decide_eq_true (by omega))
        unfold mayM at qm
        refine hS.plusM (by omega) hk ha hb (fun e => qe (by rw [e])) ?_ ?_ ?_
        · rcases (show k' = 0 ∨ k' = 1 ∨ k' = 2 ∨ k' = 3 ∨ k' = 4 by omega) with rfl | rfl | rfl | rfl | rfl
          · rw [if_pos rfl, Bool.and_eq_true] at qm
            have := hin 99 p (by decide) qm.1
            simp; omega
          · simp
          · simp
          · rw [if_neg (by decide), if_neg (by decide), if_pos rfl] at qm
            have := hin 4 p (by decide) qm
            simp; omega
          · rw [if_neg (by decide), if_neg (by decide), if_neg (by decide), if_pos rfl, Bool.and_eq_true] at qm
            have := hin 21 p (by decide) qm.1
            simp; omega
        · rcases (show k' = 0 ∨ k' = 1 ∨ k' = 2 ∨ k' = 3 ∨ k' = 4 by omega) with rfl | rfl | rfl | rfl | rfl
          · rw [if_pos rfl, Bool.and_eq_true] at qm
            have h1 := of_decide_eq_true qm.1
            have := hil p.toInt q h1.1 qm.2
            simp; omega
          · rw [if_neg (by decide), if_pos (Or.inl rfl)] at qm
            have := hin 99 q (by decide) qm
            simp; omega
          · rw [if_neg (by decide), if_pos (Or.inr rfl)] at qm
            have := hin 99 q (by decide) qm
            simp; omega
          · simp
          · rw [if_neg (by decide), if_neg (by decide), if_neg (by decide), if_pos rfl, Bool.and_eq_true] at qm
            have := hil 1 q (by decide) qm.2
            simp; omega
        · rintro rfl
          rw [if_neg (by decide), if_neg (by decide), if_pos rfl] at qm
          have := hin 4 p (by decide) qm
          omega
      · rw [qb] at q; cases q
    · rw [qa] at q; cases q
  · exact hS
