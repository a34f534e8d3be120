/-! the class: lays, measure -/
section
variable {d n r m : Nat} {G G' K H : AH} {s s' σ : SGT} {h h' : Nat → Nat → Int64} {w w' : Int32} {et em : Nat} {rt rm : Nat → Nat} {l f : List Nat} {P : Nat → Bool}
theorem addM_at {k a b p q : Nat} : addM s k a b p q 9 (s 0 3) = k ∧ addM s k a b p q 10 (s 0 3) = a ∧ addM s k a b p q 11 (s 0 3) = b ∧ addM s k a b p q 12 (s 0 3) = (if k = 1 ∨ k = 2 then 0 else p) ∧ addM s k a b p q 13 (s 0 3) = (if k = 3 then 0 else q) ∧ addM s k a b p q 14 (s 0 3) = 1 := by
  unfold addM up
  simp
theorem addM_u {k a b p q t : Nat} (h : t ≠ s 0 3) : addM s k a b p q 9 t = s 9 t ∧ addM s k a b p q 10 t = s 10 t ∧ addM s k a b p q 11 t = s 11 t ∧ addM s k a b p q 12 t = s 12 t ∧ addM s k a b p q 13 t = s 13 t ∧ addM s k a b p q 14 t = s 14 t := by
  unfold addM up
  simp [h]
set_option maxHeartbeats 1000000 in
theorem x_addM {s0 : SGT} {k a b p q : Nat} (hSI : SI s0) (hD : DK s w et em rt rm G) (hS : SB s) (hX : CX s0 h et em G) (hn : s 0 3 < 60) (hk : k ≤ 4) (m1 : hN K = hN G + 3) (mg : Gb 3 160 G K) (mo2 : ∀ b, b < hN G → hT K b = hT G b ∧ hL K b = hL G b ∧ (∀ i, hR K b i = hR G b i) ∧ (b ≠ 4 → (∀ i, hI K b i = hI G b i) ∧ ∀ i, hJ K b i = hJ G b i)) (m3 : ME (addM s k a b p q) (s 0 3) (hN G) K) (m4 : MR (addM s k a b p q) (s 0 3) (hN G) K) (m5 : hI K (hN G) 146 = nI 1) (hd : 6 ≤ d) : ∃ G' em' rm', cl d 338 [vr (some 6), vr (some (hN G))] K = some (.inl (some (vi (nI 1))), G') ∧ DK (addM s k a b p q) w et em' rt rm' G' ∧ CX s0 h et em' G' ∧ Fq 4 1160 G G' ∧ XS K ∧ (∀ a i, a < 136 → a ≠ 6 → a ≠ 4 → hI G' a i = hI G a i) ∧ (∀ a i, 121 ≤ a → a < 136 → hR G' a i = hR G a i) := by
  have hD0 := hD
  obtain ⟨b1, b2, b3, ⟨b4, b5⟩, ⟨b6, b7⟩, b8, b9⟩ := hD
  have hTL : ∀ a, a < hN G → hT K a = hT G a ∧ hL K a = hL G a := fun a ha => ⟨(mo2 a ha).1, (mo2 a ha).2.1⟩
  have hXK : XS K := XS.of b1 (fun a f q => (mo2 a (by omega)).2.2.1 f) (fun a q => hTL a (by omega))
  have hLK : LSt K 6 (s 0 3) em := b6.of (by omega) hTL (((mo2 _ (by omega)).2.2.2 (by decide)).1 _) ((mo2 _ (by omega)).2.2.1 _) b2
  have he1 := b4.2.2.2.2.2.2.2.1
  have he2 := b6.2.2.2.2.2.2.2.1
  have hEl : Els K em (s 0 3) := fun z hz => by
    obtain ⟨c1, c2, -⟩ := b7 z hz
    have hb := (hS.2.2.2.2.2.1 z hz).1
    have hlt := c2.2.1
    refine ⟨rm z, by rw [(mo2 em he2).2.2.1]; exact c1, by omega, ?_⟩
    rw [(mo2 _ (by omega)).1, c2.2.2.1]
    rcases (show s 9 z = 0 ∨ s 9 z = 1 ∨ s 9 z = 2 ∨ s 9 z = 3 ∨ s 9 z = 4 by omega) with q | q | q | q | q <;> rw [q] <;> decide
  have hTn : hT K (hN G) = 7 + k := by rw [m3.2.2.1, addM_at.1]
  have hnt : List.contains tgs (hT K (hN G)) = true := by
    rw [hTn]
    rcases (show k = 0 ∨ k = 1 ∨ k = 2 ∨ k = 3 ∨ k = 4 by omega) with q | q | q | q | q <;> rw [q] <;> decide
  obtain ⟨G', em', e1, hLA⟩ := c_add (d := d) hLK (by omega) (by omega) hEl (x := hN G) hnt (by omega) hd
  have hlv : Lv et em K G' := hLA.lv (by omega) (Or.inr rfl)
  have hlv0 : Lv et em G K := ⟨by omega, hTL, fun a i _ q _ _ => (mo2 a q).2.2.1 i, fun a i q1 q _ _ => ((mo2 a q).2.2.2 (by omega)).1 i, fun a i q1 q _ _ => ((mo2 a q).2.2.2 (by omega)).2 i⟩
  have hlv2 : Lv et em G G' := hlv0.trans hlv (Or.inl rfl) (Or.inr (Or.inl rfl))
  obtain ⟨⟨k1, k2, k3⟩, k4, k5, k6, k7, k8, k9, k10, k11⟩ := hLA
  have he50 := dk_e50 hD0
  have hf50 := dk_f50 hD0
  have hI' : ∀ a i, a < hN G → a ≠ 6 → a ≠ 4 → hI G' a i = hI G a i := fun a i q1 q2 q3 => ((k4 a (by omega)).2.2.1 i q2).trans (((mo2 a q1).2.2.2 q3).1 i)
  have hJ' : ∀ a i, a < hN G → a ≠ 4 → hJ G' a i = hJ G a i := fun a i q1 q3 => ((k4 a (by omega)).2.2.2.1 i).trans (((mo2 a q1).2.2.2 q3).2 i)
  have hR' : ∀ a i, a < hN G → a ≠ 6 → (a ≠ em ∨ em = 1) → hR G' a i = hR G a i := fun a i q1 q2 q3 => ((k4 a (by omega)).2.2.2.2 i q2 q3).trans ((mo2 a q1).2.2.1 i)
  have hT' : ∀ a, a < hN G → hT G' a = hT G a ∧ hL G' a = hL G a := fun a q => ⟨((k4 a (by omega)).1).trans (hTL a q).1, ((k4 a (by omega)).2.1).trans (hTL a q).2⟩
  obtain ⟨-, -, o3, n3, z0, zg, -⟩ := addM_o (s := s) (k := k) (a := a) (b := b) (p := p) (q := q)
  have hz : ∀ g, g ≠ 0 → (g < 9 ∨ 14 < g) → addM s k a b p q g = s g := fun g q1 q2 => zg g q1 (by omega) (by omega) (by omega) (by omega) (by omega) (by omega)
  have hXG : XS G' := XS.of b1 (fun a f q => hR' a f (by omega) (by omega) (by omega)) (fun a q => hT' a (by omega))
  have n2 : addM s k a b p q 0 2 = s 0 2 := z0 2 (by decide)
  have hfr : fre (addM s k a b p q) = fre s := fre_agr (z0 0 (by omega)) (z0 1 (by omega)) (hz 1 (by omega) (by omega))
  have h51 : et ≠ em ∨ em = 1 := by omega
  have hme : em ≠ 5 := by rintro rfl; have := b6.2.2.2.2.2.1; have := b4.1; omega
  have hte : et ≠ 6 := by rintro rfl; have := b4.2.2.2.2.2.1; have := b6.1; omega
  refine ⟨G', em', fun t => if t = s 0 3 then hN G else rm t, e1, ⟨hXG, by omega, ?_, ⟨by rw [n2]; exact b4.of (by omega) hT' (hI' _ _ (by omega) (by decide) (by decide)) (hR' _ _ (by omega) (by decide) (by omega)) b2, fun t ht => ?_⟩, ⟨by rw [n3]; exact k5, fun m hm => ?_⟩, ?_, ?_⟩, ?_, ⟨⟨by omega, fun b hb => ?_⟩, (mg.trans k3).mono (by omega) (by omega)⟩, hXK, fun a i q1 q2 q3 => hI' a i (by omega) q2 q3, fun a i q1 q2 => hR' a i (by omega) (by omega) (by omega)⟩
  · obtain ⟨c1, c2, c3, c4, c5, c6, c7, c8, c9, c10⟩ := b3
    unfold CR
    rw [z0 0 (by omega), z0 1 (by omega), hz 1 (by omega) (by omega), hz 26 (by omega) (by omega), hz 8 (by omega) (by omega), hz 15 (by omega) (by omega), hz 16 (by omega) (by omega), hz 17 (by omega) (by omega)]
    have h3 : ∀ i, hI G' 3 i = hI G 3 i := fun i => hI' 3 i (by omega) (by decide) (by decide)
    exact ⟨(h3 _).trans c1, (h3 _).trans c2, (hJ' 3 _ (by omega) (by decide)).trans c3, (h3 _).trans c4, (h3 _).trans c5, (h3 _).trans c6, (h3 _).trans c7, (h3 _).trans c8, fun t ht => (hI' _ _ (by omega) (by decide) (by decide)).trans (c9 t ht), fun j hj => ⟨(hI' _ _ (by omega) (by decide) (by decide)).trans (c10 j hj).1, (hI' _ _ (by omega) (by decide) (by decide)).trans (c10 j hj).2.1, (hI' _ _ (by omega) (by decide) (by decide)).trans (c10 j hj).2.2⟩⟩
  · rw [n2] at ht
    obtain ⟨c1, c2, c3, c4⟩ := b5 t ht
    have h184 := c2.1
    have hlt := c2.2.1
    have hb := (hS.2.2.1 t ht).1
    have hib : inbox (addM s k a b p q) t = inbox s t := by funext c; unfold inbox; rw [hz 4 (by omega) (by omega)]
    refine ⟨by rw [hR' _ _ he1 hte h51]; exact c1, ?_, by rw [hib, hJ' _ _ hlt (by omega)]; exact c3, by rw [hz 5 (by omega) (by omega), hI' _ _ hlt (by omega) (by omega)]; exact c4⟩
    have := c2.lv hb hlv2 he50 hf50
    unfold TH
    rw [hz 2 (by omega) (by omega), hz 3 (by omega) (by omega), hz 6 (by omega) (by omega), hz 7 (by omega) (by omega)]
    exact this
  · rw [n3] at hm
    dsimp only
    by_cases y : m = s 0 3
    · subst y
      rw [if_pos rfl]
      refine ⟨k11, ?_, ?_, ?_⟩
      · exact m3.of (by omega) (fun j hj => ⟨(k4 _ (by omega)).1, (k4 _ (by omega)).2.1⟩) (fun i _ => (k4 _ (by omega)).2.2.1 i (by omega)) (fun i => (k4 _ (by omega)).2.2.2.2 i (by omega) (by omega))
      · intro c hc
        rw [(k4 _ (by omega)).2.2.2.1, (k4 _ (by omega)).2.2.2.1]
        exact m4 c hc
      · rw [addM_at.2.2.2.2.2, (k4 _ (by omega)).2.2.1 _ (by omega)]
        exact m5
    · rw [if_neg y]
      obtain ⟨c1, c2, c3, c4⟩ := b7 m (by omega)
      obtain ⟨u9, u10, u11, u12, u13, u14⟩ := addM_u (s := s) (k := k) (a := a) (b := b) (p := p) (q := q) y
      have h184 := c2.1
      have hlt := c2.2.1
      have hb := (hS.2.2.2.2.2.1 m (by omega)).1
      refine ⟨?_, ?_, ?_, ?_⟩
      · rw [k10 m (by omega), (mo2 em he2).2.2.1]
        exact c1
      · have := c2.lv hb hlv2 he50 hf50
        unfold ME
        rw [u9, u10, u11, u12, u13]
        exact this
      · have hkp : kpt (addM s k a b p q) m = kpt s m := by
          funext c e
          unfold kpt
          rw [u9, u12, u13, hfr]
        intro c hc
        rw [hkp, hJ' _ _ (by omega) (by omega), hJ' _ _ (by omega) (by omega)]
        exact c3 c hc
      · rw [u14, hI' _ _ (by omega) (by omega) (by omega)]
        exact c4
  · rcases k6 with y | y
    · rw [y]; exact b8
    · rw [y]; omega
  · rcases k6 with y | y
    · rw [y]; exact b9
    · rw [y]; omega
  · have hX0 := hX
    obtain ⟨⟨f1, f2, f3, f4, g1, g2, g3, g4, g5, g6, g7, g8⟩, c2, -, -, -, nm1, nm2⟩ := hX
    have h3 : ∀ i, hI G' 3 i = hI G 3 i := fun i => hI' 3 i (by omega) (by decide) (by decide)
    have t1 := m3.2.2.2.2.2.2.2.2.2.1
    have t2 := m3.2.2.2.2.2.2.2.2.2.2.2.1
    refine hX0.lv hSI b2 he50 hf50 he1 he2 hlv2 ⟨f1, f2, f3, f4, g1, g2, g3, g4, (h3 _).trans g5, (h3 _).trans g6, (h3 _).trans g7, (h3 _).trans g8⟩ ((h3 _).trans c2) (fun j _ => hR' _ _ (by omega) (by omega) (by omega)) (fun j _ => hR' _ _ (by omega) (by omega) (by omega)) (fun j _ => hR' _ _ (by omega) (by decide) (by omega)) ?_ (Or.inl rfl) (by omega) (Nat.le_of_eq (hT' _ he1).2.symm) ?_
    · rcases (show hN G' = hN G + 3 ∨ hN G' = hN G + 4 by omega) with y | y
      · rw [y, show hN G + 3 - 1 = hN G + 2 by omega, show hN G + 3 - 2 = hN G + 1 by omega]
        exact ⟨Or.inr (by rw [(k4 _ (by omega)).1, t2]; omega), Or.inr (by rw [(k4 _ (by omega)).1, t1]; omega)⟩
      · rw [y, show hN G + 4 - 1 = hN K by omega, show hN G + 4 - 2 = hN G + 2 by omega]
        exact ⟨Or.inr (by rw [k9 (by omega)]; omega), Or.inr (by rw [(k4 _ (by omega)).1, t2]; omega)⟩
    · rw [← (hTL em he2).2]
      exact k7
  · exact ⟨(hT' b (by omega)).1, (hT' b (by omega)).2, fun i => hR' b i (by omega) (by omega) (by omega), fun i => hI' b i (by omega) (by omega) (by omega), fun i => hJ' b i (by omega) (by omega)⟩
end
