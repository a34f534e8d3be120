/-! the class: what a change leaves of all that lies about -/
/-- what may change of the cells that were made: words of things and measures, rows of Steps, the lists' arrays et em -/
def Lv (et em : Nat) (G G' : AH) : Prop := hN G ≤ hN G' ∧ (∀ a, a < hN G → hT G' a = hT G a ∧ hL G' a = hL G a) ∧ (∀ a i, 184 ≤ a → a < hN G → a ≠ et → a ≠ em → hR G' a i = hR G a i) ∧ (∀ a i, 184 ≤ a → a < hN G → ¬ (3 ≤ hT G a ∧ hT G a ≤ 5 ∧ i = 173) → ¬ (7 ≤ hT G a ∧ hT G a ≤ 11 ∧ i = 146) → hI G' a i = hI G a i) ∧ ∀ a i, 184 ≤ a → a < hN G → ¬ (3 ≤ hT G a ∧ hT G a ≤ 5) → (hT G a = 41 → ∀ r, hT G r = 11 → hT G (r + 1) = 41 → a ≠ r + 1 ∧ a ≠ r + 2) → hJ G' a i = hJ G a i
def AgO (s s' : SGT) : Prop := (s' 0 2 = s 0 2 ∧ s' 0 3 = s 0 3) ∧ s' 2 = s 2 ∧ s' 3 = s 3 ∧ s' 6 = s 6 ∧ s' 7 = s 7 ∧ s' 9 = s 9 ∧ s' 10 = s 10 ∧ s' 11 = s 11 ∧ s' 12 = s 12 ∧ s' 13 = s 13
section
variable {d : Nat} {G G' K : AH} {s s' : SGT} {h : Nat → Nat → Int64} {w w' : Int32} {et em et2 em2 : Nat} {rt rm : Nat → Nat} {l f : List Nat} {P : Nat → Bool}
theorem Lv.refl (G : AH) : Lv et em G G := ⟨Nat.le_refl _, fun _ _ => ⟨rfl, rfl⟩, fun _ _ _ _ _ _ => rfl, fun _ _ _ _ _ _ => rfl, fun _ _ _ _ _ _ => rfl⟩
theorem Lv.trans (a : Lv et em G K) (b : Lv et2 em2 K G') (h1 : et2 = et ∨ et2 = em ∨ et2 = 1 ∨ hN G ≤ et2) (h2 : em2 = et ∨ em2 = em ∨ em2 = 1 ∨ hN G ≤ em2) : Lv et em G G' := by
  obtain ⟨a1, a2, a3, a4, a5⟩ := a
  obtain ⟨b1, b2, b3, b4, b5⟩ := b
  refine ⟨by omega, fun c hc => ⟨((b2 c (by omega)).1).trans (a2 c hc).1, ((b2 c (by omega)).2).trans (a2 c hc).2⟩, fun c i q1 q2 q3 q4 => (b3 c i q1 (by omega) (by omega) (by omega)).trans (a3 c i q1 q2 q3 q4), fun c i q1 q2 q3 q4 => ?_, fun c i q1 q2 q3 q4 => ?_⟩
  · refine (b4 c i q1 (by omega) ?_ ?_).trans (a4 c i q1 q2 q3 q4)
    · rw [(a2 c q2).1]; exact q3
    · rw [(a2 c q2).1]; exact q4
  · refine (b5 c i q1 (by omega) ?_ fun hc r hr hr2 => ?_).trans (a5 c i q1 q2 q3 q4)
    · rw [(a2 c q2).1]; exact q3
    · by_cases z : r + 1 < hN G
      · exact q4 (by rw [← (a2 c q2).1]; exact hc) r (by rw [← (a2 r (by omega)).1]; exact hr) (by rw [← (a2 _ z).1]; exact hr2)
      · omega
theorem Sy.lv (k : Sy l f G G') (hl : ∀ a ∈ l, a < 184) : Lv et em G G' := ⟨k.1, fun a ha => ⟨(k.2.1 a ha).1, (k.2.1 a ha).2.1⟩, fun a i _ q _ _ => (k.2.1 a q).2.2 i, fun a i q1 q2 _ _ => (k.2.2 a i q2 (fun z => by have := hl a z; omega) (by omega)).1, fun a i q1 q2 _ _ => (k.2.2 a i q2 (fun z => by have := hl a z; omega) (by omega)).2⟩
theorem Lv.tru {r : Nat} {v : Int32} (h1 : 3 ≤ hT G r ∧ hT G r ≤ 5) : Lv et em G (sI G r 173 v) := ⟨Nat.le_refl _, fun _ _ => ⟨rfl, rfl⟩, fun _ _ _ _ _ _ => rfl, fun a i _ _ q1 q2 => by
    rw [hI_sI, if_neg]
    rintro ⟨rfl, rfl⟩
    exact q1 ⟨h1.1, h1.2, rfl⟩, fun _ _ _ _ _ _ => rfl⟩
theorem Lv.on {r : Nat} {v : Int32} (h1 : 7 ≤ hT G r ∧ hT G r ≤ 11) : Lv et em G (sI G r 146 v) := ⟨Nat.le_refl _, fun _ _ => ⟨rfl, rfl⟩, fun _ _ _ _ _ _ => rfl, fun a i _ _ q1 q2 => by
    rw [hI_sI, if_neg]
    rintro ⟨rfl, rfl⟩
    exact q2 ⟨h1.1, h1.2, rfl⟩, fun _ _ _ _ _ _ => rfl⟩
theorem Lv.bx {r i : Nat} {v : Int64} (h1 : 3 ≤ hT G r ∧ hT G r ≤ 5) : Lv et em G (sJ G r i v) := ⟨Nat.le_refl _, fun _ _ => ⟨rfl, rfl⟩, fun _ _ _ _ _ _ => rfl, fun _ _ _ _ _ _ => rfl, fun a j _ _ q1 q2 => by
    rw [hJ_sJ, if_neg]
    rintro ⟨rfl, rfl⟩
    exact q1 h1⟩
theorem Lv.row {r a i : Nat} {v : Int64} (h1 : hT G r = 11) (h3 : hT G (r + 1) = 41) (h4 : hT G a = 41) (h2 : a = r + 1 ∨ a = r + 2) : Lv et em G (sJ G a i v) := ⟨Nat.le_refl _, fun _ _ => ⟨rfl, rfl⟩, fun _ _ _ _ _ _ => rfl, fun _ _ _ _ _ _ => rfl, fun c j _ _ q1 q2 => by
    rw [hJ_sJ, if_neg]
    rintro ⟨rfl, rfl⟩
    have := q2 h4 r h1 h3
    omega⟩
theorem nm_no {a : Nat} (h1 : NM G (a - 1)) (h2 : NM G (a - 2)) : ∀ r, hT G r = 11 → hT G (r + 1) = 41 → a ≠ r + 1 ∧ a ≠ r + 2 := fun r hr _ => by
  constructor
  · rintro rfl
    rw [show r + 1 - 1 = r by omega] at h1
    unfold NM at h1
    omega
  · rintro rfl
    rw [show r + 2 - 2 = r by omega] at h2
    unfold NM at h2
    omega
theorem TH.lv {t r : Nat} (hh : TH s t r G) (hb : s 2 t ≤ 2) (k : Lv et em G G') (h1 : et = 1 ∨ hT G et = 50) (h2 : em = 1 ∨ hT G em = 50) : TH s t r G' := by
  obtain ⟨k1, k2, k3, k4, k5⟩ := k
  have q1 := hh.1
  have q2 := hh.2.1
  have q3 := hh.2.2.1
  refine hh.of k1 (k2 _ q2).1 (fun i hi => k4 r i q1 q2 (fun z => hi z.2.2) (by omega)) (fun i => k3 r i q1 q2 ?_ ?_)
  · rintro rfl; omega
  · rintro rfl; omega
theorem ME.lv {m r : Nat} (hh : ME s m r G) (hb : s 9 m ≤ 4) (k : Lv et em G G') (h1 : et = 1 ∨ hT G et = 50) (h2 : em = 1 ∨ hT G em = 50) : ME s m r G' := by
  obtain ⟨k1, k2, k3, k4, k5⟩ := k
  have q1 := hh.1
  have q2 := hh.2.1
  have q3 := hh.2.2.1
  refine hh.of k1 (fun j _ => k2 _ (by omega)) (fun i hi => k4 r i q1 (by omega) (by omega) (fun z => hi z.2.2)) (fun i => k3 r i q1 (by omega) ?_ ?_)
  · rintro rfl; omega
  · rintro rfl; omega
theorem MR.lv {m r : Nat} (hh : ME s m r G) (hr : MR s m r G) (h4 : s 9 m < 4) (k : Lv et em G G') : MR s m r G' := fun c hc => by
  obtain ⟨k1, k2, k3, k4, k5⟩ := k
  have q1 := hh.1
  have q2 := hh.2.1
  have q3 := hh.2.2.1
  have q4 := hh.2.2.2.2.2.2.2.2.2.1
  have q5 := hh.2.2.2.2.2.2.2.2.2.2.2.1
  have hno : ∀ r', hT G r' = 11 → hT G (r' + 1) = 41 → (r + 1 ≠ r' + 1 ∧ r + 1 ≠ r' + 2) ∧ (r + 2 ≠ r' + 1 ∧ r + 2 ≠ r' + 2) := fun r' hr' hr2 => by
    have e1 : r' ≠ r := fun e => by subst e; omega
    have e2 : r' ≠ r + 1 := fun e => by subst e; omega
    have e3 : r' + 1 ≠ r := fun e => by rw [e] at hr2; omega
    omega
  exact ⟨(k5 (r + 1) c (by omega) (by omega) (by omega) (fun _ r' hr' hr2 => (hno r' hr' hr2).1)).trans (hr c hc).1, (k5 (r + 2) c (by omega) (by omega) (by omega) (fun _ r' hr' hr2 => (hno r' hr' hr2).2)).trans (hr c hc).2⟩
theorem SHT.lv {rs : Nat → Nat} (hc : SHT s h rs G) (k : Lv et em G G') (hr : ∀ j, j < 4 → hR G' (132 + j) 141 = hR G (132 + j) 141) : SHT s h rs G' := by
  obtain ⟨k1, k2, k3, k4, k5⟩ := k
  obtain ⟨c3, c3'⟩ := hc
  refine ⟨fun j hj => ⟨fun z => ?_, fun z => ?_⟩, c3'⟩
  · rw [hr j hj]; exact (c3 j hj).1 z
  · obtain ⟨q1, q2, q3, q4, q5, q6, q7, q8⟩ := (c3 j hj).2 z
    have hlt : 40 ≤ hT G (rs j) := by rw [q4]; unfold ltg; split <;> (try split) <;> (try split) <;> omega
    refine ⟨by rw [hr j hj]; exact q1, q2, by omega, by rw [(k2 _ q3).1]; exact q4, by rw [(k2 _ q3).2]; exact q5, q6.of (k2 _ (by omega)).1, q7.of (k2 _ (by omega)).1, fun i hi => ?_⟩
    unfold shV
    rw [k4 _ _ q2 q3 (by omega) (by omega), k5 _ _ q2 q3 (by omega) (fun _ => nm_no q6 q7)]
    exact q8 i hi
theorem HLD.lv {k : Nat} (hk : HLD s k G) (v : Lv et em G G') (h1 : et = 1 ∨ hT G et = 50) (h2 : em = 1 ∨ hT G em = 50) (hr : hR G' (123 + k) 141 = hR G (123 + k) 141) : HLD s k G' := by
  unfold HLD
  rw [hr]
  rcases hk with q | ⟨q1, σ, r, q2, q3, q4, q5, q6⟩ | ⟨q1, σ, r, q2, q3, q4, q5, q6⟩
  · exact Or.inl q
  · exact Or.inr (Or.inl ⟨q1, σ, r, q2, q3.lv (by omega) v h1 h2, q4, q5, q6⟩)
  · exact Or.inr (Or.inr ⟨q1, σ, r, q2, q3.lv (by omega) v h1 h2, q4, q5, q6⟩)
theorem IMG.lv {σ : SGT} {x pt pm et' em' bx tr on mp mv : Nat} {rt' rm' : Nat → Nat} (hB : SB σ) (hi : IMG σ x pt pm et' em' rt' rm' bx tr on mp mv G) (v : Lv et em G G') (h1 : et = 1 ∨ hT G et = 50) (h2 : em = 1 ∨ hT G em = 50) (h184 : 184 ≤ hN G) (e1 : et' = 1 ∨ (et' ≠ et ∧ et' ≠ em)) (e2 : em' = 1 ∨ (em' ≠ et ∧ em' ≠ em)) : IMG σ x pt pm et' em' rt' rm' bx tr on mp mv G' := by
  have v2 := v
  obtain ⟨k1, k2, k3, k4, k5⟩ := v
  have hT' : ∀ a, a < hN G → hT G' a = hT G a := fun a ha => (k2 a ha).1
  have hL' : ∀ a, a < hN G → hL G' a = hL G a := fun a ha => (k2 a ha).2
  have hR' : ∀ a, 184 ≤ a → a < hN G → hT G a ≠ 50 → ∀ i, hR G' a i = hR G a i := fun a q1 q2 q3 i => k3 a i q1 q2 (by rintro rfl; omega) (by rintro rfl; omega)
  have hI' : ∀ a, 184 ≤ a → a < hN G → 12 ≤ hT G a → ∀ i, hI G' a i = hI G a i := fun a q1 q2 q3 i => k4 a i q1 q2 (by omega) (by omega)
  obtain ⟨⟨i1, i2, i3, i4⟩, ⟨i5, i6, i7, i8, i9⟩, ⟨i10, i11, i12, i13, i14, i15, i16⟩, ⟨i17, i18, i19, i20⟩, ⟨i21, i22, i23, i24⟩, ⟨u1, u2, u3, u4, u5, u6, u7⟩, ⟨v1, v2', v3, v4, v5⟩, ⟨w1, w2, w3', w4, w5⟩, ⟨x1, x2, x3, x4, x5⟩, ⟨y1, y2, y3, y4, y5⟩⟩ := hi
  have ht0 := i18.1
  have ht1 := i18.2.2.2.2.2.2.1
  have ht2 := i18.2.2.2.2.2.2.2.1
  have hm0 := i22.1
  have hm1 := i22.2.2.2.2.2.2.1
  have hm2 := i22.2.2.2.2.2.2.2.1
  have hx := hI' x i1 i2 (by omega)
  have hxr := hR' x i1 i2 (by omega)
  have hxj : hJ G' x 160 = hJ G x 160 := k5 x _ i1 i2 (by omega) (fun q => by omega)
  have hpt := hI' pt i17 ht1 (by omega)
  have hptr := hR' pt i17 ht1 (by omega)
  have hpm := hI' pm i21 hm1 (by omega)
  have hpmr := hR' pm i21 hm1 (by omega)
  have het : ∀ t, t < σ 0 2 → hR G' et' t = hR G et' t := fun t ht => by
    have hl := i18.2.2.2.1
    have hl1 := i18.2.2.2.2.2.2.2.2.2
    rcases i19 with rfl | q
    · omega
    · exact k3 _ _ q ht2 (by omega) (by omega)
  have hem : ∀ m, m < σ 0 3 → hR G' em' m = hR G em' m := fun m hm => by
    have hl := i22.2.2.2.1
    have hl1 := i22.2.2.2.2.2.2.2.2.2
    rcases i23 with rfl | q
    · omega
    · exact k3 _ _ q hm2 (by omega) (by omega)
  exact ⟨⟨i1, by omega, by rw [hT' _ i2]; exact i3, by rw [hx]; exact i4⟩, ⟨by rw [hx]; exact i5, by rw [hx]; exact i6, by rw [hxj]; exact i7, by rw [hx]; exact i8, by rw [hx]; exact i9⟩, ⟨by rw [hxr]; exact i10, by rw [hxr]; exact i11, by rw [hxr]; exact i12, by rw [hxr]; exact i13, by rw [hxr]; exact i14, by rw [hxr]; exact i15, by rw [hxr]; exact i16⟩, ⟨i17, i18.of k1 (fun a ha => ⟨hT' a ha, hL' a ha⟩) (hpt _) (hptr _) h184, i19, fun t ht => ⟨by rw [het t ht]; exact (i20 t ht).1, (i20 t ht).2.lv (hB.2.2.1 t ht).1 v2 h1 h2⟩⟩, ⟨i21, i22.of k1 (fun a ha => ⟨hT' a ha, hL' a ha⟩) (hpm _) (hpmr _) h184, i23, fun m hm => ⟨by rw [hem m hm]; exact (i24 m hm).1, (i24 m hm).2.1.lv (hB.2.2.2.2.2.1 m hm).1 v2 h1 h2, fun z4 => MR.lv (i24 m hm).2.1 ((i24 m hm).2.2 z4) (by have := (hB.2.2.2.2.2.1 m hm).1; omega) v2⟩⟩, ⟨u1, by omega, by rw [hT' _ u2]; exact u3, by rw [hL' _ u2]; exact u4, u5.of (hT' _ (by omega)), u6.of (hT' _ (by omega)), fun t ht => by rw [k5 bx t u1 u2 (by omega) (fun _ => nm_no u5 u6)]; exact u7 t ht⟩, ⟨v1, by omega, by rw [hT' _ v2']; exact v3, by rw [hL' _ v2']; exact v4, fun t ht => by rw [hI' _ v1 v2' (by omega)]; exact v5 t ht⟩, ⟨w1, by omega, by rw [hT' _ w2]; exact w3', by rw [hL' _ w2]; exact w4, fun t ht => by rw [hI' _ w1 w2 (by omega)]; exact w5 t ht⟩, ⟨x1, by omega, by rw [hT' _ x2]; exact x3, by rw [hL' _ x2]; exact x4, fun t ht => by rw [hI' _ x1 x2 (by omega)]; exact x5 t ht⟩, ⟨y1, by omega, by rw [hT' _ y2]; exact y3, by rw [hL' _ y2]; exact y4, fun t ht => by rw [hI' _ y1 y2 (by omega), hI' _ y1 y2 (by omega), hI' _ y1 y2 (by omega)]; exact y5 t ht⟩⟩
/-- what lies beyond the desk, after a change -/
theorem CX.lv (hSI : SI s) (hc : CX s h et em G) (h184 : 184 ≤ hN G) (h1 : et = 1 ∨ hT G et = 50) (h2 : em = 1 ∨ hT G em = 50) (hl1 : et < hN G) (hl2 : em < hN G) (v : Lv et em G G') (hft : ∃ a b c e, FT a b c e G') (hwn : hI G' 3 27 = -9) (hs : ∀ j, j < 4 → hR G' (132 + j) 141 = hR G (132 + j) 141) (hh : ∀ j, j < 8 → hR G' (123 + j) 141 = hR G (123 + j) 141) (hi : ∀ j, j < 2 → hR G' 121 j = hR G 121 j) (hnm : NM G' (hN G' - 1) ∧ NM G' (hN G' - 2)) (n1 : et2 = et ∨ et2 = 1 ∨ hN G ≤ et2) (n2 : em2 = em ∨ em2 = 1 ∨ hN G ≤ em2) (z1 : hL G et ≤ hL G' et2) (z2 : hL G em ≤ hL G' em2) : CX s h et2 em2 G' := by
  obtain ⟨-, -, ⟨rs, c3⟩, c4, c5, -, -⟩ := hc
  refine ⟨hft, hwn, ⟨rs, c3.lv v hs⟩, fun j hj => (c4 j hj).lv v h1 h2 (hh j hj), fun j hj => ⟨fun z => ?_, fun z => ?_⟩, hnm⟩
  · rw [hi j hj]; exact (c5 j hj).1 z
  · obtain ⟨x, pt, pm, et', em', rt', rm', bx, tr, on, mp, mv, p1, p2, p3, p4, p5, p6, p7⟩ := (c5 j hj).2 z
    have b1 := p2.2.2.2.1.2.1.2.2.2.2.2.2.2.1
    have b2 := p2.2.2.2.2.1.2.1.2.2.2.2.2.2.2.1
    exact ⟨x, pt, pm, et', em', rt', rm', bx, tr, on, mp, mv, by rw [hi j hj]; exact p1, p2.lv ((hSI.2.1 j hj).2 z) v h1 h2 h184 p3 p4, by omega, by omega, ⟨p5.1, Nat.le_trans p5.2.1 z1, Nat.le_trans p5.2.2 z2⟩, p6, fun j hj => by rw [hs j hj]; exact p7 j hj⟩
/-- the desk, after a change of its objects' words -/
theorem DK.ob (hD : DK s w et em rt rm G) (hS : SB s) (v : Lv et em G G') (hr : ∀ a i, a < hN G → (a < 121 ∨ a = 122 ∨ a = 131 ∨ 136 ≤ a) → hR G' a i = hR G a i) (hz1 : hI G' 5 140 = hI G 5 140) (hz2 : hI G' 6 140 = hI G 6 140) (hCR : CR s' w' G') (hA : AgO s s') (hb : ∀ t, t < s 0 2 → hJ G' (rt t) 172 = wd (inbox s' t)) (ht : ∀ t, t < s 0 2 → hI G' (rt t) 173 = nI (s' 5 t)) (ho : ∀ m, m < s 0 3 → hI G' (rm m) 146 = nI (s' 14 m)) (hm : ∀ m, m < s 0 3 → MR s' m (rm m) G') : DK s' w' et em rt rm G' := by
  obtain ⟨b1, b2, b3, ⟨b4, b5⟩, ⟨b6, b7⟩, b8, b9⟩ := hD
  obtain ⟨⟨h02, h03⟩, h2, h3, h6, h7, h9, h10, h11, h12, h13⟩ := hA
  have q1 : et = 1 ∨ hT G et = 50 := by have := b4.2.2.2.2.2.1; omega
  have q2 : em = 1 ∨ hT G em = 50 := by have := b6.2.2.2.2.2.1; omega
  have e1 := b4.2.2.2.2.2.2.2.1
  have e2 := b6.2.2.2.2.2.2.2.1
  have v2 := v
  obtain ⟨k1, k2, k3, k4, k5⟩ := v
  refine ⟨XS.of b1 (fun a f q => hr a f (by omega) (by omega)) (fun a q => k2 a (by omega)), by omega, hCR, ⟨by rw [h02]; exact b4.of k1 k2 hz1 (hr _ _ (by omega) (by omega)) b2, fun t ht' => ?_⟩, ⟨by rw [h03]; exact b6.of k1 k2 hz2 (hr _ _ (by omega) (by omega)) b2, fun m hm' => ?_⟩, b8, b9⟩
  · rw [h02] at ht'
    obtain ⟨c1, c2, c3, c4⟩ := b5 t ht'
    refine ⟨(hr _ _ e1 (by omega)).trans c1, ?_, hb t ht', ht t ht'⟩
    have := c2.lv (hS.2.2.1 t ht').1 v2 q1 q2
    unfold TH
    rw [h2, h3, h6, h7]
    exact this
  · rw [h03] at hm'
    obtain ⟨c1, c2, c3, c4⟩ := b7 m hm'
    refine ⟨(hr _ _ e2 (by omega)).trans c1, ?_, hm m hm', ho m hm'⟩
    have := c2.lv (hS.2.2.2.2.2.1 m hm').1 v2 q1 q2
    unfold ME
    rw [h9, h10, h11, h12, h13]
    exact this
theorem dk_e50 (hD : DK s w et em rt rm G) : et = 1 ∨ hT G et = 50 := by have := (dk_T hD).2.2.2.2.2.1; omega
theorem dk_f50 (hD : DK s w et em rt rm G) : em = 1 ∨ hT G em = 50 := by have := (dk_M hD).2.2.2.2.2.1; omega
/-- objects of things are two by two -/
theorem dk_inj (hD : DK s w et em rt rm G) (hS : SB s) {t u : Nat} (ht : t < s 0 2) (hu : u < s 0 2) (e : rt t = rt u) : t = u := by
  have h0 := hS.1
  have q1 := (dk_th hD ht).2.2.2.1
  have q2 := (dk_th hD hu).2.2.2.1
  rw [e, q2] at q1
  have := congrArg Int32.toInt q1
  rw [nI_toInt (by omega), nI_toInt (by omega)] at this
  omega
theorem dk_injM (hD : DK s w et em rt rm G) (hS : SB s) {t u : Nat} (ht : t < s 0 3) (hu : u < s 0 3) (e : rm t = rm u) : t = u := by
  have h0 := hS.1
  have q1 := (dk_me hD ht).2.2.2.1
  have q2 := (dk_me hD hu).2.2.2.1
  rw [e, q2] at q1
  have := congrArg Int32.toInt q1
  rw [nI_toInt (by omega), nI_toInt (by omega)] at this
  omega
theorem x_changes (hX : XS G) : cl d 5 [vr (some 3)] G = some (.inl none, sI (sI (sI G 3 11 (nI 0)) 3 12 (nI 0)) 3 47 (nI 0)) := by
  rw [en5]
  have hX1 : XS (sI G 3 11 (nI 0)) := by rw [XS_sI]; exact hX
  have hX2 : XS (sI (sI G 3 11 (nI 0)) 3 12 (nI 0)) := by rw [XS_sI]; exact hX1
  simp (disch := omega) only [rX0_changes_0, rX0_changes_1, rX0_changes_2, rX0_changes_5, rX0_changes_6, rX0_changes_7, rX0_changes_10, rX0_changes_11, rX0_changes_12, rX0_changes_15, psh_some, psh_none, bnd_r1, bnd_r0, b01_0, b01_1, lg_lt, lg_eq, lg_gt, lg_ge, lg_le, reduceIte, Bool.false_eq_true, and_true, true_and, and_false, false_and, not_true_eq_false, not_false_eq_true, eq_self, nI_add, nI_mul, nI_div, nI_irm, nI_subk, inb_ok, ix_ok, nI_lt_t, nI_lt_f, nI_le_t, nI_le_f, nI_eq_t, nI_eq_f, nI_z, ifb, ifbn, b01_bI, b01_n, Nat.reduceEqDiff, nl_l, nl_n, nl_i, nl_r, Bool.true_eq_false, reduceIte, if_true, if_false, ok0_0, ok0_1, ok0_2, ok0_3, ok0_4, ok0_5, ok0_6, ok0_7, ok0_8, ok0_9, ok0_10, ok0_11, ok0_12, ok0_13, ok0_14, ok0_15, ok0_16, ok0_17, ok0_18, ok0_19, ok0_20, ok0_21, ok0_22, ok0_23, ok0_24, ok0_25, ok0_26, ok0_27, ok0_28, ok0_29, ok0_30, ok0_31, ok0_32, ok0_33, ok0_34, ok0_35, ok0_36, ok0_37, ok0_38, ok0_39, ok0_40, ok0_41, ok0_42, ok0_43, ok0_44, ok0_45, ok0_46, ok0_47, ok0_48, ok0_49, ok0_50, ok0_51, ok0_52, ok0_53, ok0_54, ok1_141, ok2_55, ok2_56, ok2_57, ok2_58, ok2_59, ok2_60, ok2_61, ok2_62, ok2_63, ok2_64, ok2_65, ok2_66, ok2_67, ok2_68, ok2_69, ok2_70, ok2_71, ok2_72, ok2_73, ok2_74, ok2_75, ok2_76, ok2_77, ok2_78, ok2_79, ok2_80, ok2_81, ok2_82, ok2_83, ok2_84, ok2_85, ok2_86, ok2_87, ok2_88, ok2_89, ok2_90, ok2_91, ok2_92, ok2_93, ok2_94, ok2_95, ok2_96, ok2_97, ok2_98, ok2_99, ok2_100, ok2_101, ok2_102, ok2_103, ok2_104, ok2_105, ok2_106, ok2_107, ok2_108, ok2_109, ok2_110, ok2_111, ok2_112, ok2_113, ok2_114, ok2_115, ok2_116, ok2_117, ok2_118, ok2_119, ok2_120, ok2_121, ok2_122, ok2_123, ok2_124, ok2_125, ok2_126, ok2_127, ok2_128, ok2_129, ok2_130, ok2_131, ok2_132, ok2_133, ok2_134, ok2_135, ok2_136, ok2_137, ok3_171, ok3_172, ok3_173, ok3_174, ok3_175, ok3_176, ok4_171, ok4_172, ok4_173, ok4_174, ok4_175, ok4_176, ok4_177, ok4_178, ok5_171, ok5_172, ok5_173, ok5_174, ok5_175, ok5_176, ok5_177, ok5_178, ok5_179, ok7_142, ok7_143, ok7_144, ok7_145, ok7_146, ok7_147, ok7_148, ok7_149, ok7_152, ok7_153, ok7_154, ok8_142, ok8_143, ok8_144, ok8_145, ok8_146, ok8_147, ok8_148, ok8_149, ok8_152, ok8_153, ok8_154, ok8_155, ok9_142, ok9_143, ok9_144, ok9_145, ok9_146, ok9_147, ok9_148, ok9_149, ok9_152, ok9_153, ok9_154, ok9_155, ok9_180, ok10_142, ok10_143, ok10_144, ok10_145, ok10_146, ok10_147, ok10_148, ok10_149, ok10_150, ok10_151, ok11_142, ok11_143, ok11_144, ok11_145, ok11_146, ok11_147, ok11_148, ok11_149, ok11_152, ok11_153, ok11_154, ok11_155, ok11_156, ok11_157, ok13_158, ok13_159, ok13_160, ok13_161, ok13_162, ok13_163, ok13_164, ok13_165, ok13_166, ok13_167, ok13_168, ok13_169, ok13_170, ok16_138, ok16_139, ok16_140, ct_a, ct_a5, ct_b, ct_c, ct_d, ct_r50, ct_r51, ct_r52, ct_r53, ct_r54, xs_T, xsR_5, xsT_4, xsL_4, xsR_6, xsT_5, xsL_5, xsR_7, xsT_6, xsL_6, xsR_8, xsT_7, xsL_7, xsR_9, xsT_8, xsL_8, xsR_10, xsT_9, xsL_9, xsR_14, xsT_10, xsL_10, xsR_17, xsT_11, xsL_11, xsR_18, xsT_12, xsL_12, xsR_24, xsT_13, xsL_13, xsR_25, xsT_14, xsL_14, xsR_26, xsT_24, xsL_24, xsR_28, xsT_106, xsL_106, xsR_34, xsT_107, xsL_107, xsR_41, xsT_108, xsL_108, xsR_42, xsT_109, xsL_109, xsR_43, xsT_110, xsL_110, xsR_44, xsT_111, xsL_111, xsR_46, xsT_112, xsL_112, xsR_52, xsT_121, xsL_121, xsR_53, xsT_122, xsL_122, xsR_54, xsT_131, xsL_131, hX, hX1, hX2]
theorem chg_sx : Sx [] [11, 12, 47] G (sI (sI (sI G 3 11 (nI 0)) 3 12 (nI 0)) 3 47 (nI 0)) := (Sx.sI (Or.inr ⟨rfl, by decide⟩)).trans ((Sx.sI (Or.inr ⟨rfl, by decide⟩)).trans (Sx.sI (Or.inr ⟨rfl, by decide⟩)))
theorem chg_cc : CC s (sI (sI (sI G 3 11 (nI 0)) 3 12 (nI 0)) 3 47 (nI 0)) := ⟨Or.inl (by rw [hI_sI, if_neg (by decide), hI_sI, if_neg (by decide), hI_sI, if_pos ⟨rfl, rfl⟩]), Or.inl (by rw [hI_sI, if_neg (by decide), hI_sI, if_pos ⟨rfl, rfl⟩]), Or.inl (by rw [hI_sI, if_pos ⟨rfl, rfl⟩])⟩
end
