/-! the class: all that it has -/
def NM (G : AH) (a : Nat) : Prop := hT G a < 7 ∨ 11 < hT G a
def ltg (lane : Nat) : Nat := if lane = 0 then 42 else if lane = 1 then 43 else if lane = 2 then 40 else 41
def shV (G : AH) (r lane i : Nat) : Int64 := if lane = 3 then hJ G r i else (hI G r i).toInt64
/-- the sheets -/
def SHT (s : SGT) (h : Nat → Nat → Int64) (rs : Nat → Nat) (G : AH) : Prop := (∀ k, k < 4 → (s 23 k = 0 → hR G (132 + k) 141 = none) ∧ (0 < s 23 k → hR G (132 + k) 141 = some (rs k) ∧ 184 ≤ rs k ∧ rs k < hN G ∧ hT G (rs k) = ltg (s 24 k) ∧ hL G (rs k) + 1 = s 23 k ∧ NM G (rs k - 1) ∧ NM G (rs k - 2) ∧ ∀ i, i + 1 < s 23 k → shV G (rs k) (s 24 k) i = h k i)) ∧ ∀ j k, j < 4 → k < 4 → j ≠ k → 0 < s 23 j → 0 < s 23 k → rs j ≠ rs k
/-- what is held, as it was when it was taken -/
def HLD (s : SGT) (k : Nat) (G : AH) : Prop := (s 18 k = 1000 ∧ hR G (123 + k) 141 = none) ∨
  (s 18 k = 0 ∧ ∃ (σ : SGT) (r : Nat), hR G (123 + k) 141 = some r ∧ TH σ (s 19 k) r G ∧ σ 2 (s 19 k) = s 20 k ∧ s 20 k ≤ 2 ∧ s 21 k = 3 * s 19 k ∧ (0 < s 20 k → σ 3 (s 19 k) = s 22 k ∧ s 22 k < 64)) ∨
  (s 18 k = 1 ∧ ∃ (σ : SGT) (r : Nat), hR G (123 + k) 141 = some r ∧ ME σ (s 19 k) r G ∧ σ 9 (s 19 k) = s 20 k ∧ s 20 k ≤ 4 ∧ s 21 k = σ 10 (s 19 k) + σ 11 (s 19 k) ∧ s 22 k = σ 12 (s 19 k) + σ 13 (s 19 k) ∧ σ 10 (s 19 k) < 24 ∧ σ 11 (s 19 k) < 24 ∧ σ 12 (s 19 k) ≤ 98 ∧ σ 13 (s 19 k) ≤ 98 ∧ (s 20 k = 1 ∨ s 20 k = 2 → σ 12 (s 19 k) = 0) ∧ (s 20 k = 3 → σ 13 (s 19 k) = 0))
/-- an image: its object x, lists and their arrays, rows -/
def IMG (σ : SGT) (x pt pm et em : Nat) (rt rm : Nat → Nat) (bx tr on mp mv : Nat) (G : AH) : Prop := (184 ≤ x ∧ x < hN G ∧ hT G x = 13 ∧ hI G x 170 = nI 1) ∧ (hI G x 158 = nI (σ 0 0) ∧ hI G x 159 = nI (σ 0 1) ∧ hJ G x 160 = wd (fun c => decide (σ 1 c = 1)) ∧ hI G x 161 = nI (σ 26 1) ∧ hI G x 162 = nI (σ 26 0)) ∧
  (hR G x 163 = some pt ∧ hR G x 164 = some pm ∧ hR G x 165 = some bx ∧ hR G x 166 = some tr ∧ hR G x 167 = some on ∧ hR G x 168 = some mp ∧ hR G x 169 = some mv) ∧
  (184 ≤ pt ∧ LSt G pt (σ 0 2) et ∧ (et = 1 ∨ 184 ≤ et) ∧ ∀ t, t < σ 0 2 → hR G et t = some (rt t) ∧ TH σ t (rt t) G) ∧
  (184 ≤ pm ∧ LSt G pm (σ 0 3) em ∧ (em = 1 ∨ 184 ≤ em) ∧ ∀ m, m < σ 0 3 → hR G em m = some (rm m) ∧ ME σ m (rm m) G ∧ (σ 9 m ≠ 4 → MR σ m (rm m) G)) ∧
  ((184 ≤ bx ∧ bx < hN G ∧ hT G bx = 41 ∧ hL G bx = 24 ∧ NM G (bx - 1) ∧ NM G (bx - 2) ∧ ∀ t, t < σ 0 2 → hJ G bx t = wd (inbox σ t)) ∧ (184 ≤ tr ∧ tr < hN G ∧ hT G tr = 44 ∧ hL G tr = 24 ∧ ∀ t, t < σ 0 2 → hI G tr t = nI (σ 5 t)) ∧ (184 ≤ on ∧ on < hN G ∧ hT G on = 44 ∧ hL G on = 60 ∧ ∀ m, m < σ 0 3 → hI G on m = nI (σ 14 m)) ∧ (184 ≤ mp ∧ mp < hN G ∧ hT G mp = 40 ∧ hL G mp = 24 ∧ ∀ t, t < 24 → hI G mp t = nN (σ 8 t)) ∧ (184 ≤ mv ∧ mv < hN G ∧ hT G mv = 40 ∧ hL G mv = 9 ∧ ∀ k, k < σ 26 0 → hI G mv k = nI (σ 15 k) ∧ hI G mv (3 + k) = nI (σ 16 k) ∧ hI G mv (6 + k) = nI (σ 17 k)))
def IMS (s : SGT) (et em : Nat) (G : AH) : Prop := ∀ k, k < 2 → (s 25 k = 0 → hR G 121 k = none) ∧ (s 25 k = 1 → ∃ x pt pm et' em' rt rm bx tr on mp mv, hR G 121 k = some x ∧ IMG (img k s) x pt pm et' em' rt rm bx tr on mp mv G ∧ (et' = 1 ∨ (et' ≠ et ∧ et' ≠ em)) ∧ (em' = 1 ∨ (em' ≠ et ∧ em' ≠ em)) ∧ (bx ≠ tr ∧ img k s 0 2 ≤ hL G et ∧ img k s 0 3 ≤ hL G em) ∧ (et' = 1 ∨ et' ≠ em') ∧ ∀ j, j < 4 → hR G (132 + j) 141 ≠ some bx ∧ hR G (132 + j) 141 ≠ some mp ∧ hR G (132 + j) 141 ≠ some mv)
def CX (s : SGT) (h : Nat → Nat → Int64) (et em : Nat) (G : AH) : Prop := (∃ a b c e, FT a b c e G) ∧ hI G 3 27 = -9 ∧ (∃ rs, SHT s h rs G) ∧ (∀ k, k < 8 → HLD s k G) ∧ IMS s et em G ∧ NM G (hN G - 1) ∧ NM G (hN G - 2)
/-- the class has the state s, the sheets h, the trace w -/
def CI (s : SGT) (h : Nat → Nat → Int64) (w : Int32) (G : AH) : Prop := ∃ et em rt rm, DK s w et em rt rm G ∧ CC s G ∧ CX s h et em G
/-- what a call of the class may change: its own cells; so much is made -/
def Fx (G G' : AH) : Prop := (hN G ≤ hN G' ∧ ∀ a, a < 3 ∨ (136 ≤ a ∧ a < 184) → hT G' a = hT G a ∧ hL G' a = hL G a ∧ (∀ i, hR G' a i = hR G a i) ∧ (∀ i, hI G' a i = hI G a i) ∧ ∀ i, hJ G' a i = hJ G a i) ∧ Gb 300 60000 G G'
/-- the contract of a public call of the class -/
def XO (d y : Nat) (A : List AV) (s : SGT) (h : Nat → Nat → Int64) (w : Int32) (v : AV) (s' : SGT) (h' : Nat → Nat → Int64) (w' : Int32) : Prop := ∀ G, CI s h w G → ∃ G', cl d y (vr (some 3) :: A) G = some (.inl (some v), G') ∧ Fx G G' ∧ CI s' h' w' G'
section
variable {d : Nat} {G G' : AH} {s : SGT} {h : Nat → Nat → Int64} {w : Int32} {et em : Nat} {rt rm : Nat → Nat} {l f : List Nat} {P : Nat → Bool}
theorem Sx.fx (k : Sx l f G G') (hl : ∀ a ∈ l, 3 ≤ a ∧ a < 136) : Fx G G' := by
  refine ⟨⟨Nat.le_of_eq k.1.1.symm, fun a ha => ?_⟩, (k.gb).mono (by omega) (by omega)⟩
  have hn : a ∉ l := fun q => by have := hl a q; omega
  exact ⟨by rw [k.1.2.2.2.1], by rw [k.1.2.2.2.2.1], fun i => by rw [k.1.2.2.2.2.2], fun i => k.2.1 _ _ hn (by omega), fun i => k.2.2 _ _ hn (by omega)⟩
theorem Sy.fx (k : Sy l f G G') (h184 : 184 ≤ hN G) (hl : ∀ a ∈ l, 3 ≤ a ∧ a < 136) (hg : Gb 300 60000 G G') : Fx G G' := by
  refine ⟨⟨k.1, fun a ha => ?_⟩, hg⟩
  have hn : a ∉ l := fun q => by have := hl a q; omega
  have h1 := k.2.1 a (by omega)
  exact ⟨h1.1, h1.2.1, h1.2.2, fun i => (k.2.2 a i (by omega) hn (by omega)).1, fun i => (k.2.2 a i (by omega) hn (by omega)).2⟩
theorem NM.of {a : Nat} (h : NM G a) (ht : hT G' a = hT G a) : NM G' a := by unfold NM; rw [ht]; exact h
/-- what lies beyond the object stays -/
theorem CX.syg (hc : CX s h et em G) (h184 : 184 ≤ hN G) (hl1 : et < hN G) (hl2 : em < hN G) (k : Sy l f G G') (hl : ∀ a ∈ l, a < 136) (hft : ∃ a b c e, FT a b c e G') (hwn : hI G' 3 27 = -9) (hnm : NM G' (hN G' - 1) ∧ NM G' (hN G' - 2)) : CX s h et em G' := by
  obtain ⟨-, -, ⟨rs, c3, c3'⟩, c4, c5, -, -⟩ := hc
  obtain ⟨k1, k2, k3⟩ := k
  have hT' : ∀ a, a < hN G → hT G' a = hT G a := fun a ha => (k2 a ha).1
  have hL' : ∀ a, a < hN G → hL G' a = hL G a := fun a ha => (k2 a ha).2.1
  have hR' : ∀ a, a < hN G → ∀ i, hR G' a i = hR G a i := fun a ha => (k2 a ha).2.2
  have hI' : ∀ a, 184 ≤ a → a < hN G → ∀ i, hI G' a i = hI G a i := fun a h1 h2 i => (k3 a i h2 (fun q => by have := hl a q; omega) (by omega)).1
  have hJ' : ∀ a, 184 ≤ a → a < hN G → ∀ i, hJ G' a i = hJ G a i := fun a h1 h2 i => (k3 a i h2 (fun q => by have := hl a q; omega) (by omega)).2
  have hTH : ∀ σ t r, TH σ t r G → TH σ t r G' := fun σ t r hh => hh.of k1 (hT' _ hh.2.1) (fun i _ => hI' r hh.1 hh.2.1 i) (fun i => hR' _ hh.2.1 i)
  have hME : ∀ σ m r, ME σ m r G → ME σ m r G' := fun σ m r hh => by
    have q1 := hh.1
    have q2 := hh.2.1
    exact hh.of k1 (fun j _ => ⟨hT' _ (by omega), hL' _ (by omega)⟩) (fun i _ => hI' r q1 (by omega) i) (fun i => hR' _ (by omega) i)
  have hMR : ∀ σ m r, ME σ m r G → MR σ m r G → MR σ m r G' := fun σ m r hh hr c hc => by
    have q1 := hh.1
    have q2 := hh.2.1
    exact ⟨(hJ' _ (by omega) (by omega) c).trans (hr c hc).1, (hJ' _ (by omega) (by omega) c).trans (hr c hc).2⟩
  refine ⟨hft, hwn, ⟨rs, fun j hj => ⟨fun z => ?_, fun z => ?_⟩, c3'⟩, fun j hj => ?_, fun j hj => ⟨fun z => ?_, fun z => ?_⟩, hnm⟩
  · rw [hR' _ (by omega)]; exact (c3 j hj).1 z
  · obtain ⟨q1, q2, q3, q4, q5, q6, q7, q8⟩ := (c3 j hj).2 z
    refine ⟨by rw [hR' _ (by omega)]; exact q1, q2, by omega, by rw [hT' _ q3]; exact q4, by rw [hL' _ q3]; exact q5, q6.of (hT' _ (by omega)), q7.of (hT' _ (by omega)), fun i hi => ?_⟩
    unfold shV
    rw [hI' _ q2 q3, hJ' _ q2 q3]
    exact q8 i hi
  · rcases c4 j hj with ⟨q1, q2⟩ | ⟨q1, σ, r, q2, q3, q4⟩ | ⟨q1, σ, r, q2, q3, q4⟩
    · exact Or.inl ⟨q1, by rw [hR' _ (by omega)]; exact q2⟩
    · exact Or.inr (Or.inl ⟨q1, σ, r, by rw [hR' _ (by omega)]; exact q2, hTH _ _ _ q3, q4⟩)
    · exact Or.inr (Or.inr ⟨q1, σ, r, by rw [hR' _ (by omega)]; exact q2, hME _ _ _ q3, q4⟩)
  · rw [hR' _ (by omega)]; exact (c5 j hj).1 z
  · obtain ⟨x, pt, pm, et', em', rt', rm', bx, tr, on, mp, mv, p1, ⟨⟨i1, i2, i3, i4⟩, ⟨i5, i6, i7, i8, i9⟩, ⟨i10, i11, i12, i13, i14, i15, i16⟩, ⟨i17, i18, i19, i20⟩, ⟨i21, i22, i23, i24⟩, ⟨u1, u2, u3, u4, u5, u6, u7⟩, ⟨v1, v2, v3, v4, v5⟩, ⟨w1, w2, w3', w4, w5⟩, ⟨x1, x2, x3, x4, x5⟩, ⟨y1, y2, y3, y4, y5⟩⟩, p3, p4, p5, p6, p7⟩ := (c5 j hj).2 z
    have ht1 := i18.2.2.2.2.2.2.1
    have ht2 := i18.2.2.2.2.2.2.2.1
    have hm1 := i22.2.2.2.2.2.2.1
    have hm2 := i22.2.2.2.2.2.2.2.1
    refine ⟨x, pt, pm, et', em', rt', rm', bx, tr, on, mp, mv, by rw [hR' _ (by omega)]; exact p1, ⟨⟨i1, by omega, by rw [hT' _ i2]; exact i3, by rw [hI' _ i1 i2]; exact i4⟩, ⟨by rw [hI' _ i1 i2]; exact i5, by rw [hI' _ i1 i2]; exact i6, by rw [hJ' _ i1 i2]; exact i7, by rw [hI' _ i1 i2]; exact i8, by rw [hI' _ i1 i2]; exact i9⟩, ⟨by rw [hR' _ i2]; exact i10, by rw [hR' _ i2]; exact i11, by rw [hR' _ i2]; exact i12, by rw [hR' _ i2]; exact i13, by rw [hR' _ i2]; exact i14, by rw [hR' _ i2]; exact i15, by rw [hR' _ i2]; exact i16⟩, ⟨i17, i18.of k1 (fun a ha => ⟨hT' a ha, hL' a ha⟩) (hI' _ i17 ht1 _) (hR' _ ht1 _) h184, i19, fun t ht => ⟨by rw [hR' _ ht2]; exact (i20 t ht).1, hTH _ _ _ (i20 t ht).2⟩⟩, ⟨i21, i22.of k1 (fun a ha => ⟨hT' a ha, hL' a ha⟩) (hI' _ i21 hm1 _) (hR' _ hm1 _) h184, i23, fun m hm => ⟨by rw [hR' _ hm2]; exact (i24 m hm).1, hME _ _ _ (i24 m hm).2.1, fun z4 => hMR _ _ _ (i24 m hm).2.1 ((i24 m hm).2.2 z4)⟩⟩, ⟨u1, by omega, by rw [hT' _ u2]; exact u3, by rw [hL' _ u2]; exact u4, u5.of (hT' _ (by omega)), u6.of (hT' _ (by omega)), fun t ht => by rw [hJ' _ u1 u2]; exact u7 t ht⟩, ⟨v1, by omega, by rw [hT' _ v2]; exact v3, by rw [hL' _ v2]; exact v4, fun t ht => by rw [hI' _ v1 v2]; exact v5 t ht⟩, ⟨w1, by omega, by rw [hT' _ w2]; exact w3', by rw [hL' _ w2]; exact w4, fun t ht => by rw [hI' _ w1 w2]; exact w5 t ht⟩, ⟨x1, by omega, by rw [hT' _ x2]; exact x3, by rw [hL' _ x2]; exact x4, fun t ht => by rw [hI' _ x1 x2]; exact x5 t ht⟩, ⟨y1, by omega, by rw [hT' _ y2]; exact y3, by rw [hL' _ y2]; exact y4, fun t ht => by rw [hI' _ y1 y2, hI' _ y1 y2, hI' _ y1 y2]; exact y5 t ht⟩⟩, p3, p4, ⟨p5.1, by rw [hL' _ hl1]; exact p5.2.1, by rw [hL' _ hl2]; exact p5.2.2⟩, p6, fun j hj => by rw [hR' _ (by omega)]; exact p7 j hj⟩
theorem CX.sy (hc : CX s h et em G) (h184 : 184 ≤ hN G) (hl1 : et < hN G) (hl2 : em < hN G) (k : Sy l f G G') (hl : ∀ a ∈ l, a < 136) (h3 : 3 ∉ l) (hf : 29 ∉ f ∧ 30 ∉ f ∧ 31 ∉ f ∧ 32 ∉ f ∧ 27 ∉ f) (hnm : NM G' (hN G' - 1) ∧ NM G' (hN G' - 2)) : CX s h et em G' := by
  obtain ⟨f1, f2, f3, f4, f5⟩ := hf
  have e3 : ∀ i, i ∉ f → hI G' 3 i = hI G 3 i := fun i hi => (k.2.2 3 i (by omega) h3 (fun q => hi q.2)).1
  have hc2 := hc
  obtain ⟨⟨a, b, c, e, a1, a2, a3, a4, a5, a6, a7, a8⟩, c2, -⟩ := hc
  exact hc2.syg h184 hl1 hl2 k hl ⟨a, b, c, e, a1, a2, a3, a4, (e3 _ f1).trans a5, (e3 _ f2).trans a6, (e3 _ f3).trans a7, (e3 _ f4).trans a8⟩ ((e3 _ f5).trans c2) hnm
theorem dk_et (hD : DK s w et em rt rm G) : et < hN G := (dk_T hD).2.2.2.2.2.2.2.1
theorem dk_em (hD : DK s w et em rt rm G) : em < hN G := (dk_M hD).2.2.2.2.2.2.2.1
/-- a query: only rows and words of the object were written -/
theorem CI.sx (hD : DK s w et em rt rm G) (hX : CX s h et em G) (k : Sx l f G G') (hC : CC s G') (ho : offX l f = true) (hf : 29 ∉ f ∧ 30 ∉ f ∧ 31 ∉ f ∧ 32 ∉ f ∧ 27 ∉ f) : CI s h w G' := by
  refine ⟨et, em, rt, rm, hD.sx k ho, hC, hX.sy hD.2.1 (dk_et hD) (dk_em hD) k.sy (fun a ha => (offX_l ho ha).1) (fun q => (offX_l ho q).2.1 rfl) hf ?_⟩
  have h1 := hX.2.2.2.2.2.1
  have h2 := hX.2.2.2.2.2.2
  rw [k.1.1]
  exact ⟨h1.of (by rw [k.1.2.2.2.1]), h2.of (by rw [k.1.2.2.2.1])⟩
theorem XO.q {y : Nat} {A : List AV} {v : AV} (hq : ∀ et em rt rm G, DK s w et em rt rm G → CC s G → CX s h et em G → ∃ l f G', cl d y (vr (some 3) :: A) G = some (.inl (some v), G') ∧ Sx l f G G' ∧ CC s G' ∧ offX l f = true ∧ (29 ∉ f ∧ 30 ∉ f ∧ 31 ∉ f ∧ 32 ∉ f ∧ 27 ∉ f)) : XO d y A s h w v s h w := fun G hI => by
  obtain ⟨et, em, rt, rm, hD, hC, hX⟩ := hI
  obtain ⟨l, f, G', e1, e2, e3, e4, e5⟩ := hq et em rt rm G hD hC hX
  refine ⟨G', e1, e2.fx (fun a ha => ?_), CI.sx hD hX e2 e3 e4 e5⟩
  unfold offX at e4
  rw [Bool.and_eq_true] at e4
  have := List.all_eq_true.mp e4.1 a ha
  rw [Bool.and_eq_true, decide_eq_true_eq] at this
  have h2 := this.2
  simp at h2
  omega
end
