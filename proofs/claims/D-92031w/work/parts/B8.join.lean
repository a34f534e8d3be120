/-! the law: both sides beside each other -/
theorem TWL_r : ∀ a ∈ TWL, 136 ≤ a ∧ a < 184 := by decide
theorem TWL_m : ∀ a, 136 ≤ a → a < 184 → a ∈ TWL := fun a h1 h2 => by
  obtain ⟨k, rfl⟩ : ∃ k, a = 136 + k := ⟨a - 136, by omega⟩
  have : ∀ k, k < 48 → 136 + k ∈ TWL := by decide
  exact this k (by omega)
section
variable {d : Nat} {G G' : AH} {s s' : SGT} {h h' : Nat → Nat → Int64} {w w' : Int32} {et em : Nat} {rt rm : Nat → Nat} {l f : List Nat}
/-- the reference's cells are as they were -/
theorem TI.fx (hT' : TI s h w G) (hf : ∀ a, 136 ≤ a → a < 184 → hT G' a = hT G a ∧ hL G' a = hL G a ∧ (∀ i, hR G' a i = hR G a i) ∧ (∀ i, hI G' a i = hI G a i) ∧ ∀ i, hJ G' a i = hJ G a i) : TI s h w G' := by
  have eI : ∀ a i, 136 ≤ a → a < 184 → hI G' a i = hI G a i := fun a i h1 h2 => (hf a h1 h2).2.2.2.1 i
  have eJ : ∀ a i, 136 ≤ a → a < 184 → hJ G' a i = hJ G a i := fun a i h1 h2 => (hf a h1 h2).2.2.2.2 i
  have eR : ∀ a i, 136 ≤ a → a < 184 → hR G' a i = hR G a i := fun a i h1 h2 => (hf a h1 h2).2.2.1 i
  obtain ⟨a1, a2, a3, a4, a5, a6⟩ := hT'
  have r1 : ∀ q ∈ repT, 136 ≤ q.2.1 ∧ q.2.1 < 184 := by decide
  refine ⟨MS.of a1 (fun q => eR 136 q (by decide) (by decide)) (fun a h1 h2 => ⟨(hf a h1 h2).1, (hf a h1 h2).2.1⟩), TR.of a2 (fun q hq i _ => eI _ _ (r1 q hq).1 (r1 q hq).2) (fun q _ => eI _ _ (by decide) (by decide)), ?_, fun k hk i hi => by rw [eJ _ _ (by decide) (by decide)]; exact a4 k hk i hi, by rw [eI _ _ (by decide) (by decide)]; exact a5, fun k hk hz => ?_⟩
  · unfold TC Laid FB at a3 ⊢
    simp (disch := omega) only [eI, eJ]
    exact a3
  · have := a6 k hk hz
    unfold TImg at this ⊢
    simp (disch := omega) only [eI]
    exact this
theorem DK.sm (hD : DK s w et em rt rm G) (k : Sx TWL [] G G') : DK s w et em rt rm G' := by
  obtain ⟨b1, b2, b3, ⟨b4, b5⟩, ⟨b6, b7⟩, b8, b9⟩ := hD
  obtain ⟨⟨k1, k2, k3, k4, k5, k6⟩, k7, k8⟩ := k
  have hb : ∀ a, (184 ≤ a ∨ a = 5 ∨ a = 6 ∨ a = 107 ∨ a = 109 ∨ a = 110 ∨ a = 111) → (∀ i, hI G' a i = hI G a i) ∧ ∀ i, hJ G' a i = hJ G a i := fun a ha => by
    have h1 : a ∉ TWL := fun q => by have := TWL_r a q; omega
    exact ⟨fun i => k7 a i h1 (by omega), fun i => k8 a i h1 (by omega)⟩
  have h3 : 3 ∉ TWL := by decide
  have hf : ∀ i, (i = 2 ∨ i = 3 ∨ i = 4 ∨ i = 16 ∨ i = 45 ∨ i = 22 ∨ i = 0 ∨ i = 1) → hI G' 3 i = hI G 3 i ∧ hJ G' 3 i = hJ G 3 i := fun i hi => by
    have h1 : i ∉ ([] : List Nat) := List.not_mem_nil
    exact ⟨k7 3 i h3 (fun q => h1 q.2), k8 3 i h3 (fun q => h1 q.2)⟩
  have hTL : ∀ a, a < hN G → hT G' a = hT G a ∧ hL G' a = hL G a := fun a _ => by rw [k4, k5]; exact ⟨rfl, rfl⟩
  refine ⟨Sx.xs (l := TWL) (f := []) ⟨⟨k1, k2, k3, k4, k5, k6⟩, k7, k8⟩ b1, by omega, ?_, ⟨b4.of (by omega) hTL ((hb _ (by omega)).1 _) (by rw [k6]) b2, fun t ht => ?_⟩, ⟨b6.of (by omega) hTL ((hb _ (by omega)).1 _) (by rw [k6]) b2, fun m hm => ?_⟩, b8, b9⟩
  · obtain ⟨c1, c2, c3, c4, c5, c6, c7, c8, c9, c10⟩ := b3
    exact ⟨(hf _ (by omega)).1.trans c1, (hf _ (by omega)).1.trans c2, (hf _ (by omega)).2.trans c3, (hf _ (by omega)).1.trans c4, (hf _ (by omega)).1.trans c5, (hf _ (by omega)).1.trans c6, (hf _ (by omega)).1.trans c7, (hf _ (by omega)).1.trans c8, fun t ht => ((hb _ (by omega)).1 t).trans (c9 t ht), fun j hj => ⟨((hb _ (by omega)).1 j).trans (c10 j hj).1, ((hb _ (by omega)).1 j).trans (c10 j hj).2.1, ((hb _ (by omega)).1 j).trans (c10 j hj).2.2⟩⟩
  · obtain ⟨c1, c2, c3, c4⟩ := b5 t ht
    have hr := hb (rt t) (Or.inl c2.1)
    exact ⟨by rw [k6]; exact c1, c2.of (by omega) (by rw [k4]) (fun i _ => hr.1 i) (fun i => by rw [k6]), (hr.2 _).trans c3, (hr.1 _).trans c4⟩
  · obtain ⟨c1, c2, c3, c4⟩ := b7 m hm
    have h184 := c2.1
    have hr := hb (rm m) (Or.inl h184)
    have hr1 := hb (rm m + 1) (Or.inl (by omega))
    have hr2 := hb (rm m + 2) (Or.inl (by omega))
    exact ⟨by rw [k6]; exact c1, c2.of (by omega) (fun j _ => by rw [k4, k5]; exact ⟨rfl, rfl⟩) (fun i _ => hr.1 i) (fun i => by rw [k6]), fun c hc => ⟨(hr1.2 _).trans (c3 c hc).1, (hr2.2 _).trans (c3 c hc).2⟩, (hr.1 _).trans c4⟩
theorem CX.syG (hc : CX s h et em G) (h184 : 184 ≤ hN G) (hl1 : et < hN G) (hl2 : em < hN G) (k : Sy l f G G') (hl : ∀ a ∈ l, a < 184) (hft : ∃ a b c e, FT a b c e G') (hwn : hI G' 3 27 = -9) (hnm : NM G' (hN G' - 1) ∧ NM G' (hN G' - 2)) : CX s h et em G' := by
  obtain ⟨-, -, ⟨rs, c3, c3'⟩, c4, c5, -, -⟩ := hc
  obtain ⟨k1, k2, k3⟩ := k
  have hT' : ∀ a, a < hN G → hT G' a = hT G a := fun a ha => (k2 a ha).1
  have hL' : ∀ a, a < hN G → hL G' a = hL G a := fun a ha => (k2 a ha).2.1
  have hR' : ∀ a, a < hN G → ∀ i, hR G' a i = hR G a i := fun a ha => (k2 a ha).2.2
  have hI' : ∀ a, 184 ≤ a → a < hN G → ∀ i, hI G' a i = hI G a i := fun a h1 h2 i => (k3 a i h2 (fun q => by have := hl a q; omega) (by omega)).1
  have hJ' : ∀ a, 184 ≤ a → a < hN G → ∀ i, hJ G' a i = hJ G a i := fun a h1 h2 i => (k3 a i h2 (fun q => by have := hl a q; omega) (by omega)).2
  have hTH : ∀ σ t r, TH σ t r G → TH σ t r G' := fun σ t r hh => hh.of k1 (hT' _ hh.2.1) (fun i _ => hI' r hh.1 hh.2.1 i) (fun i => hR' _ hh.2.1 i)
  have hME : ∀ σ m r, ME σ m r G → ME σ m r G' := fun σ m r hh => by
    have q1 := hh.1
    have q2 := hh.2.1
    exact hh.of k1 (fun j _ => ⟨hT' _ (by omega), hL' _ (by omega)⟩) (fun i _ => hI' r q1 (by omega) i) (fun i => hR' _ (by omega) i)
  have hMR : ∀ σ m r, ME σ m r G → MR σ m r G → MR σ m r G' := fun σ m r hh hr c hc => by
    have q1 := hh.1
    have q2 := hh.2.1
    exact ⟨(hJ' _ (by omega) (by omega) c).trans (hr c hc).1, (hJ' _ (by omega) (by omega) c).trans (hr c hc).2⟩
  refine ⟨hft, hwn, ⟨rs, fun j hj => ⟨fun z => ?_, fun z => ?_⟩, c3'⟩, fun j hj => ?_, fun j hj => ⟨fun z => ?_, fun z => ?_⟩, hnm⟩
  · rw [hR' _ (by omega)]; exact (c3 j hj).1 z
  · obtain ⟨q1, q2, q3, q4, q5, q6, q7, q8⟩ := (c3 j hj).2 z
    refine ⟨by rw [hR' _ (by omega)]; exact q1, q2, by omega, by rw [hT' _ q3]; exact q4, by rw [hL' _ q3]; exact q5, q6.of (hT' _ (by omega)), q7.of (hT' _ (by omega)), fun i hi => ?_⟩
    unfold shV
    rw [hI' _ q2 q3, hJ' _ q2 q3]
    exact q8 i hi
  · rcases c4 j hj with ⟨q1, q2⟩ | ⟨q1, σ, r, q2, q3, q4⟩ | ⟨q1, σ, r, q2, q3, q4⟩
    · exact Or.inl ⟨q1, by rw [hR' _ (by omega)]; exact q2⟩
    · exact Or.inr (Or.inl ⟨q1, σ, r, by rw [hR' _ (by omega)]; exact q2, hTH _ _ _ q3, q4⟩)
    · exact Or.inr (Or.inr ⟨q1, σ, r, by rw [hR' _ (by omega)]; exact q2, hME _ _ _ q3, q4⟩)
  · rw [hR' _ (by omega)]; exact (c5 j hj).1 z
  · obtain ⟨x, pt, pm, et', em', rt', rm', bx, tr, on, mp, mv, p1, ⟨⟨i1, i2, i3, i4⟩, ⟨i5, i6, i7, i8, i9⟩, ⟨i10, i11, i12, i13, i14, i15, i16⟩, ⟨i17, i18, i19, i20⟩, ⟨i21, i22, i23, i24⟩, ⟨u1, u2, u3, u4, u5, u6, u7⟩, ⟨v1, v2, v3, v4, v5⟩, ⟨w1, w2, w3', w4, w5⟩, ⟨x1, x2, x3, x4, x5⟩, ⟨y1, y2, y3, y4, y5⟩⟩, p3, p4, p5, p6, p7⟩ := (c5 j hj).2 z
    have ht1 := i18.2.2.2.2.2.2.1
    have ht2 := i18.2.2.2.2.2.2.2.1
    have hm1 := i22.2.2.2.2.2.2.1
    have hm2 := i22.2.2.2.2.2.2.2.1
    refine ⟨x, pt, pm, et', em', rt', rm', bx, tr, on, mp, mv, by rw [hR' _ (by omega)]; exact p1, ⟨⟨i1, by omega, by rw [hT' _ i2]; exact i3, by rw [hI' _ i1 i2]; exact i4⟩, ⟨by rw [hI' _ i1 i2]; exact i5, by rw [hI' _ i1 i2]; exact i6, by rw [hJ' _ i1 i2]; exact i7, by rw [hI' _ i1 i2]; exact i8, by rw [hI' _ i1 i2]; exact i9⟩, ⟨by rw [hR' _ i2]; exact i10, by rw [hR' _ i2]; exact i11, by rw [hR' _ i2]; exact i12, by rw [hR' _ i2]; exact i13, by rw [hR' _ i2]; exact i14, by rw [hR' _ i2]; exact i15, by rw [hR' _ i2]; exact i16⟩, ⟨i17, i18.of k1 (fun a ha => ⟨hT' a ha, hL' a ha⟩) (hI' _ i17 ht1 _) (hR' _ ht1 _) h184, i19, fun t ht => ⟨by rw [hR' _ ht2]; exact (i20 t ht).1, hTH _ _ _ (i20 t ht).2⟩⟩, ⟨i21, i22.of k1 (fun a ha => ⟨hT' a ha, hL' a ha⟩) (hI' _ i21 hm1 _) (hR' _ hm1 _) h184, i23, fun m hm => ⟨by rw [hR' _ hm2]; exact (i24 m hm).1, hME _ _ _ (i24 m hm).2.1, fun z4 => hMR _ _ _ (i24 m hm).2.1 ((i24 m hm).2.2 z4)⟩⟩, ⟨u1, by omega, by rw [hT' _ u2]; exact u3, by rw [hL' _ u2]; exact u4, u5.of (hT' _ (by omega)), u6.of (hT' _ (by omega)), fun t ht => by rw [hJ' _ u1 u2]; exact u7 t ht⟩, ⟨v1, by omega, by rw [hT' _ v2]; exact v3, by rw [hL' _ v2]; exact v4, fun t ht => by rw [hI' _ v1 v2]; exact v5 t ht⟩, ⟨w1, by omega, by rw [hT' _ w2]; exact w3', by rw [hL' _ w2]; exact w4, fun t ht => by rw [hI' _ w1 w2]; exact w5 t ht⟩, ⟨x1, by omega, by rw [hT' _ x2]; exact x3, by rw [hL' _ x2]; exact x4, fun t ht => by rw [hI' _ x1 x2]; exact x5 t ht⟩, ⟨y1, by omega, by rw [hT' _ y2]; exact y3, by rw [hL' _ y2]; exact y4, fun t ht => by rw [hI' _ y1 y2, hI' _ y1 y2, hI' _ y1 y2]; exact y5 t ht⟩⟩, p3, p4, ⟨p5.1, by rw [hL' _ hl1]; exact p5.2.1, by rw [hL' _ hl2]; exact p5.2.2⟩, p6, fun j hj => by rw [hR' _ (by omega)]; exact p7 j hj⟩
/-- the class's cells are as they were -/
theorem CI.sm (hc : CI s h w G) (k : Sm TWL [] G G') : CI s h w G' := by
  have kx : Sx TWL [] G G' := ⟨k.1, fun a i h1 _ => k.2.1 a i h1 (fun q => absurd q.2 List.not_mem_nil), fun a i h1 _ => k.2.2 a i h1⟩
  obtain ⟨et, em, rt, rm, hD, hC, hX⟩ := hc
  have e3 : ∀ i, hI G' 3 i = hI G 3 i := fun i => k.2.1 3 i (by decide) (fun q => absurd q.2 List.not_mem_nil)
  have hX2 := hX
  obtain ⟨⟨a, b, c, e, a1, a2, a3, a4, a5, a6, a7, a8⟩, c2, -, -, -, n1, n2⟩ := hX
  refine ⟨et, em, rt, rm, hD.sm kx, hC.sx kx (by decide) (by decide), hX2.syG hD.2.1 (dk_et hD) (dk_em hD) kx.sy (fun a ha => (TWL_r a ha).2) ⟨a, b, c, e, a1, a2, a3, a4, by rw [e3]; exact a5, by rw [e3]; exact a6, by rw [e3]; exact a7, by rw [e3]; exact a8⟩ (by rw [e3]; exact c2) ?_⟩
  rw [k.1.1]
  exact ⟨n1.of (by rw [k.1.2.2.2.1]), n2.of (by rw [k.1.2.2.2.1])⟩
/-- the script -/
def SCR (L : Nat) (xs : Nat → Int32) (G : AH) : Prop := hT G 0 = 45 ∧ hL G 0 = L ∧ ∀ i, hI G 0 i = xs i
/-- behind i calls -/
def JN (L : Nat) (xs : Nat → Int32) (i : Nat) (G : AH) : Prop := ∃ s h w, IV s h ∧ CI s h w G ∧ TI s h w G ∧ SCR L xs G ∧ hC G ≤ 1000 + 300 * i ∧ hS G ≤ 100000 + 60000 * i
theorem ci_tag (hc : CI s h w G) : hT G 3 = 0 := by
  obtain ⟨et, em, rt, rm, hD, hC, hX⟩ := hc
  exact hD.1.1
/-- one call of both -/
theorem jn_call {y1 y2 L i : Nat} {A : List AV} {v : AV} {xs : Nat → Int32} (x : XO d y1 A s h w v s' h' w') (m : MO d y2 A s h w v s' h' w') (iv : IV s' h') (c : CI s h w G) (t : TI s h w G) (sc : SCR L xs G) (r1 : hC G ≤ 1000 + 300 * i) (r2 : hS G ≤ 100000 + 60000 * i) : ∃ G1 G2, cl d y1 (vr (some 3) :: A) G = some (.inl (some v), G1) ∧ cl d y2 (vr (some 136) :: A) G1 = some (.inl (some v), G2) ∧ SCR L xs G1 ∧ hT G1 136 = 2 ∧ JN L xs (i + 1) G2 := by
  obtain ⟨G1, e1, f1, c1⟩ := x G c
  have t1 : TI s h w G1 := t.fx (fun a h1 h2 => f1.1.2 a (Or.inr ⟨h1, h2⟩))
  obtain ⟨G2, e2, f2, t2⟩ := m G1 t1
  have sc1 : SCR L xs G1 := by
    obtain ⟨p1, p2, p3, p4, p5⟩ := f1.1.2 0 (Or.inl (by decide))
    exact ⟨p1.trans sc.1, p2.trans sc.2.1, fun i => (p4 i).trans (sc.2.2 i)⟩
  obtain ⟨g1, g2, g3, g4⟩ := f1.2
  have z1 : hC G1 ≤ 1000 + 300 * (i + 1) := by
    rw [Nat.mul_succ, ← Nat.add_assoc]
    exact Nat.le_trans g2 (Nat.add_le_add_right r1 300)
  have z2 : hS G1 ≤ 100000 + 60000 * (i + 1) := by
    rw [Nat.mul_succ, ← Nat.add_assoc]
    exact Nat.le_trans g4 (Nat.add_le_add_right r2 60000)
  refine ⟨G1, G2, e1, e2, sc1, t1.1.1, s', h', w', iv, c1.sm f2, t2, ⟨by rw [f2.1.2.2.2.1]; exact sc1.1, by rw [f2.1.2.2.2.2.1]; exact sc1.2.1, fun i => by rw [f2.2.1 0 i (by decide) (fun q => absurd q.2 List.not_mem_nil)]; exact sc1.2.2 i⟩, by rw [f2.1.2.1]; exact z1, by rw [f2.1.2.2.1]; exact z2⟩
end
