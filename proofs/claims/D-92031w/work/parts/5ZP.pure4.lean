/-! things and measures that come, pure: the order does not matter -/
section
variable {s X Y σ : SGT}
theorem up_cg {f i v g : Nat} (h : X g = Y g) : up X f i v g = up Y f i v g := by
  funext j
  unfold up
  rw [h]
theorem addT_cg {k a mo ti g : Nat} (h : X g = Y g) (h2 : X 0 2 = Y 0 2) : addT X k a mo ti g = addT Y k a mo ti g := by
  unfold addT
  rw [h2]
  exact up_cg (up_cg (up_cg (up_cg (up_cg (up_cg (up_cg (up_cg (up_cg (up_cg (up_cg h))))))))))
theorem addM_cg {k a b p q g : Nat} (h : X g = Y g) (h2 : X 0 3 = Y 0 3) : addM X k a b p q g = addM Y k a b p q g := by
  unfold addM
  rw [h2]
  exact up_cg (up_cg (up_cg (up_cg (up_cg (up_cg (up_cg h))))))
theorem addTM {k a b p q k' a' mo ti : Nat} : addT (addM s k a b p q) k' a' mo ti = addM (addT s k' a' mo ti) k a b p q := by
  obtain ⟨-, -, -, n3, z0, zg, -⟩ := addM_o (s := s) (k := k) (a := a) (b := b) (p := p) (q := q)
  obtain ⟨-, -, -, n3', z0', zg', -⟩ := addM_o (s := addT s k' a' mo ti) (k := k) (a := a) (b := b) (p := p) (q := q)
  obtain ⟨y0, yg⟩ := addT_z (s := s) (k := k') (a := a') (mo := mo) (ti := ti)
  obtain ⟨x0, xg⟩ := addT_z (s := addM s k a b p q) (k := k') (a := a') (mo := mo) (ti := ti)
  funext g
  by_cases g0 : g = 0
  · subst g0
    funext j
    by_cases j2 : j = 2
    · subst j2
      rw [addT_n.2, z0 2 (by decide), z0' 2 (by decide), addT_n.2]
    · rw [x0 j j2]
      by_cases j3 : j = 3
      · subst j3
        rw [n3, n3', addT_n.1]
      · rw [z0 j j3, z0' j j3, y0 j j2]
  · by_cases g9 : g = 1 ∨ 9 ≤ g
    · rw [xg g g9]
      exact addM_cg (yg g g9).symm (addT_n.1).symm
    · rw [zg' g g0 (by omega) (by omega) (by omega) (by omega) (by omega) (by omega)]
      exact addT_cg (zg g g0 (by omega) (by omega) (by omega) (by omega) (by omega) (by omega)) (z0 2 (by decide))
def tnS (s : SGT) (mv : Nat) : Nat → SGT
  | 0 => s
  | t + 1 => addT (tnS s mv t) 0 1000 mv t
def mnS (σ : SGT) (f r : Nat) : Nat → SGT
  | 0 => σ
  | j + 1 => addM (mnS σ f r j) 1 (f + j) (f + j + 1) 0 r
theorem tnS_n {mv : Nat} : ∀ t, tnS s mv t 0 2 = s 0 2 + t ∧ tnS s mv t 0 3 = s 0 3 ∧ (∀ j, j ≠ 2 → tnS s mv t 0 j = s 0 j) ∧ ∀ g, g = 1 ∨ 9 ≤ g → tnS s mv t g = s g
  | 0 => ⟨rfl, rfl, fun _ _ => rfl, fun _ _ => rfl⟩
  | t + 1 => by
    obtain ⟨h1, h2, h3, h4⟩ := tnS_n t
    unfold tnS
    obtain ⟨y0, yg⟩ := addT_z (s := tnS s mv t) (k := 0) (a := 1000) (mo := mv) (ti := t)
    exact ⟨by rw [addT_n.2, h1]; omega, by rw [addT_n.1, h2], fun j hj => by rw [y0 j hj, h3 j hj], fun g hg => by rw [yg g hg, h4 g hg]⟩
theorem mnS_n {f r : Nat} : ∀ t, mnS σ f r t 0 2 = σ 0 2 ∧ mnS σ f r t 0 3 = σ 0 3 + t ∧ ∀ g, g ≠ 0 → (g < 9 ∨ 14 < g) → mnS σ f r t g = σ g
  | 0 => ⟨rfl, rfl, fun _ _ _ => rfl⟩
  | t + 1 => by
    obtain ⟨h1, h2, h3⟩ := mnS_n t
    unfold mnS
    obtain ⟨-, -, -, n3, z0, zg, -⟩ := addM_o (s := mnS σ f r t) (k := 1) (a := f + t) (b := f + t + 1) (p := 0) (q := r)
    exact ⟨by rw [z0 2 (by decide), h1], by rw [n3, h2]; omega, fun g hg hg2 => by rw [zg g hg (by omega) (by omega) (by omega) (by omega) (by omega) (by omega), h3 g hg hg2]⟩
theorem addT_mn {f r mv t : Nat} : ∀ j, addT (mnS σ f r j) 0 1000 mv t = mnS (addT σ 0 1000 mv t) f r j
  | 0 => rfl
  | j + 1 => by
    unfold mnS
    rw [addTM, addT_mn j]
theorem mvS_eq {mv r : Nat} : ∀ t, mvS s mv r (t + 1) = mnS (tnS s mv (t + 1)) (s 0 2) r t
  | 0 => rfl
  | t + 1 => by
    have ih := mvS_eq (mv := mv) (r := r) t
    have h1 : mvS s mv r (t + 1 + 1) = addM (addT (mvS s mv r (t + 1)) 0 1000 mv (t + 1)) 1 (addT (mvS s mv r (t + 1)) 0 1000 mv (t + 1) 0 2 - 2) (addT (mvS s mv r (t + 1)) 0 1000 mv (t + 1) 0 2 - 1) 0 r := by
      show (if 0 < t + 1 then _ else _) = _
      rw [if_pos (by omega)]
    have h2 : addT (mvS s mv r (t + 1)) 0 1000 mv (t + 1) = mnS (tnS s mv (t + 1 + 1)) (s 0 2) r t := by
      rw [ih, addT_mn]
      rfl
    have h3 : mnS (tnS s mv (t + 1 + 1)) (s 0 2) r t 0 2 = s 0 2 + (t + 2) := by rw [(mnS_n t).1, (tnS_n _).1]
    rw [h1, h2, h3]
    show _ = addM (mnS (tnS s mv (t + 1 + 1)) (s 0 2) r t) 1 (s 0 2 + t) (s 0 2 + t + 1) 0 r
    rw [show s 0 2 + (t + 2) - 2 = s 0 2 + t by omega, show s 0 2 + (t + 2) - 1 = s 0 2 + t + 1 by omega]
theorem SB.plusT {k a mo ti : Nat} (hS : SB s) (hn : s 0 2 < 24) (hk : k ≤ 2) (h0 : k = 0 → a = 1000) (h1 : 0 < k → a < 64 ∧ fre s a = true) (hmo : mo = 1000 ∨ mo < 3) (hti : ti = 1000 ∨ ti < 8) : SB (addT s k a mo ti) := by
  obtain ⟨s1, s2, s3, s4, s5, s6, s7⟩ := hS
  obtain ⟨y0, yg⟩ := addT_z (s := s) (k := k) (a := a) (mo := mo) (ti := ti)
  obtain ⟨b0, b1, b2, b3, b4⟩ := addT_b (s := s) (k := k) (a := a) (mo := mo) (ti := ti)
  have n2 : addT s k a mo ti 0 2 = s 0 2 + 1 := addT_n.2
  have hic : isC (addT s k a mo ti) = isC s := isC_agr (y0 0 (by decide)) (y0 1 (by decide))
  have hfr : fre (addT s k a mo ti) = fre s := fre_agr (y0 0 (by decide)) (y0 1 (by decide)) (yg 1 (by omega))
  unfold SB
  rw [hic, hfr, n2, y0 0 (by decide), y0 1 (by decide), y0 3 (by decide), yg 1 (by omega), yg 26 (by omega), yg 9 (by omega), yg 10 (by omega), yg 11 (by omega), yg 12 (by omega), yg 13 (by omega), yg 14 (by omega), yg 15 (by omega), yg 16 (by omega), yg 17 (by omega)]
  refine ⟨⟨s1.1, s1.2.1, s1.2.2.1, s1.2.2.2.1, by omega, s1.2.2.2.2.2.1, s1.2.2.2.2.2.2⟩, s2, fun t ht => ?_, fun i hi => ?_, fun t ht => ?_, fun m hm => ?_, fun j hj => ?_⟩
  · by_cases q : t = s 0 2
    · subst q
      obtain ⟨q2, q3, q5, q6, q7, q8⟩ := addT_at (s := s) (k := k) (a := a) (mo := mo) (ti := ti)
      rw [q2, q3, q5, q6, q7]
      exact ⟨hk, h0, h1, by omega, hmo, hti⟩
    · obtain ⟨q2, q3, q5, q6, q7, q8⟩ := addT_u (s := s) (k := k) (a := a) (mo := mo) (ti := ti) q
      rw [q2, q3, q5, q6, q7]
      exact s3 t (by omega)
  · by_cases q : i < 4 * s 0 2 ∨ 4 * s 0 2 + 3 < i
    · rw [b4 i q]; exact s4 i hi
    · rcases (show i = 4 * s 0 2 ∨ i = 4 * s 0 2 + 1 ∨ i = 4 * s 0 2 + 2 ∨ i = 4 * s 0 2 + 3 by omega) with rfl | rfl | rfl | rfl
      · rw [b0]; omega
      · rw [b1]; omega
      · rw [b2]; omega
      · rw [b3]; omega
  · by_cases q : t = s 0 2
    · left
      rw [q]
      exact addT_at.2.2.2.2.2
    · rw [(addT_u q).2.2.2.2.2]
      rcases s5 t ht with z | z
      · exact Or.inl z
      · exact Or.inr ⟨by omega, z.2⟩
  · have := s6 m hm
    exact ⟨this.1, by omega, by omega, this.2.2.2⟩
  · have := s7 j hj
    exact ⟨by omega, this.2⟩
theorem mv3_ne {n r g : Nat} (h : g < 15 ∨ 17 < g) : mv3 s n r g = s g := by
  unfold mv3
  rw [up_ne (by omega), up_ne (by omega), up_ne (by omega)]
theorem mv3_at {n r : Nat} : mv3 s n r 15 (s 26 0) = s 0 2 ∧ mv3 s n r 16 (s 26 0) = n ∧ mv3 s n r 17 (s 26 0) = r ∧ ∀ g j, j ≠ s 26 0 → mv3 s n r g j = s g j := by
  unfold mv3
  refine ⟨by rw [up_ne (by decide), up_ne (by decide), up_at], by rw [up_ne (by decide), up_at], up_at, fun g j hj => ?_⟩
  unfold up
  rw [if_neg (fun q => hj q.2), if_neg (fun q => hj q.2), if_neg (fun q => hj q.2)]
theorem SB.mvr {n r : Nat} (hS : SB s) : SB (mv3 s n r) := by
  have e : ∀ g, g < 15 ∨ 17 < g → _root_.id (mv3 s n r g) = s g := fun g hg => mv3_ne hg
  obtain ⟨s1, s2, s3, s4, s5, s6, s7⟩ := hS
  have hic : isC (mv3 s n r) = isC s := isC_agr (by rw [mv3_ne (by omega)]) (by rw [mv3_ne (by omega)])
  have hfr : fre (mv3 s n r) = fre s := fre_agr (by rw [mv3_ne (by omega)]) (by rw [mv3_ne (by omega)]) (mv3_ne (by omega))
  have h4 := (mv3_at (s := s) (n := n) (r := r)).2.2.2
  unfold SB
  rw [hic, hfr, mv3_ne (g := 0) (by omega), mv3_ne (g := 26) (by omega), mv3_ne (g := 1) (by omega), mv3_ne (g := 2) (by omega), mv3_ne (g := 3) (by omega), mv3_ne (g := 4) (by omega), mv3_ne (g := 5) (by omega), mv3_ne (g := 6) (by omega), mv3_ne (g := 7) (by omega), mv3_ne (g := 8) (by omega), mv3_ne (g := 9) (by omega), mv3_ne (g := 10) (by omega), mv3_ne (g := 11) (by omega), mv3_ne (g := 12) (by omega), mv3_ne (g := 13) (by omega), mv3_ne (g := 14) (by omega)]
  refine ⟨s1, s2, s3, s4, s5, s6, fun j hj => ?_⟩
  rw [h4 15 j (by omega), h4 16 j (by omega), h4 17 j (by omega)]
  exact s7 j hj
theorem SB.tns {mv : Nat} (hS : SB s) (hmv : mv < 3) : ∀ t, t ≤ 8 → s 0 2 + t ≤ 24 → SB (tnS s mv t)
  | 0, _, _ => hS
  | t + 1, h1, h2 => by
    have ih := SB.tns hS hmv t (by omega) (by omega)
    exact ih.plusT (by rw [(tnS_n t).1]; omega) (by omega) (fun _ => rfl) (fun z => absurd z (by omega)) (Or.inr hmv) (Or.inr (by omega))
theorem SB.mns {f r : Nat} (hS : SB σ) (hr : r ≤ 98) : ∀ t, f + t + 1 ≤ σ 0 2 → σ 0 3 + t ≤ 60 → SB (mnS σ f r t)
  | 0, _, _ => hS
  | t + 1, h1, h2 => by
    have ih := SB.mns (f := f) hS hr t (by omega) (by omega)
    exact ih.plusM (by rw [(mnS_n t).2.1]; omega) (by omega) (by rw [(mnS_n t).1]; omega) (by rw [(mnS_n t).1]; omega) (by omega) (by rw [if_pos (Or.inl rfl)]; omega) (by rw [if_neg (by decide)]; exact hr) (fun z => absurd z (by decide))
end
