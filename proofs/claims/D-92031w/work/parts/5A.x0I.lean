/-! the class: a placing is noted -/
/-- like Sx, but something may have been made -/
def Sy (l f : List Nat) (G G' : AH) : Prop := hN G ≤ hN G' ∧ (∀ a, a < hN G → hT G' a = hT G a ∧ hL G' a = hL G a ∧ ∀ i, hR G' a i = hR G a i) ∧ ∀ a i, a < hN G → a ∉ l → ¬ (a = 3 ∧ i ∈ f) → hI G' a i = hI G a i ∧ hJ G' a i = hJ G a i
theorem Sx.sy {l f : List Nat} {G G' : AH} (h : Sx l f G G') : Sy l f G G' := ⟨Nat.le_of_eq h.1.1.symm, fun a _ => ⟨by rw [h.1.2.2.2.1], by rw [h.1.2.2.2.2.1], fun i => by rw [h.1.2.2.2.2.2]⟩, fun a i _ h1 h2 => ⟨h.2.1 a i h1 h2, h.2.2 a i h1 h2⟩⟩
theorem Sx.gb {l f : List Nat} {G G' : AH} (h : Sx l f G G') : Gb 0 0 G G' := by
  obtain ⟨⟨-, h2, h3, -⟩, -⟩ := h
  exact ⟨by omega, by omega, by omega, by omega⟩
theorem Sy.refl {l f : List Nat} (G : AH) : Sy l f G G := (Sx.refl G).sy
theorem Sy.trans {l f : List Nat} {A B C : AH} (h : Sy l f A B) (k : Sy l f B C) : Sy l f A C := by
  obtain ⟨h1, h2, h3⟩ := h
  obtain ⟨k1, k2, k3⟩ := k
  refine ⟨Nat.le_trans h1 k1, fun a ha => ?_, fun a i ha n1 n2 => ?_⟩
  · obtain ⟨p1, p2, p3⟩ := h2 a ha
    obtain ⟨q1, q2, q3⟩ := k2 a (by omega)
    exact ⟨q1.trans p1, q2.trans p2, fun i => (q3 i).trans (p3 i)⟩
  · have p := h3 a i ha n1 n2
    have q := k3 a i (by omega) n1 n2
    exact ⟨q.1.trans p.1, q.2.trans p.2⟩
theorem Sy.mono {l f l' f' : List Nat} {A B : AH} (h : Sy l f A B) (h1 : ∀ a ∈ l, a ∈ l') (h2 : ∀ a ∈ f, a ∈ f') : Sy l' f' A B := ⟨h.1, h.2.1, fun a i ha q1 q2 => h.2.2 a i ha (fun w => q1 (h1 a w)) (fun w => q2 ⟨w.1, h2 i w.2⟩)⟩
theorem Sy.mkx {l f : List Nat} {G : AH} {t n c k : Nat} : Sy l f G (mkx G t n c k) := by
  refine ⟨Nat.le_succ _, fun a ha => ?_, fun a i ha _ _ => ?_⟩
  · have : ¬ a = hN G := by omega
    exact ⟨by rw [hT_mkx, if_neg this], by rw [hL_mkx, if_neg this], fun i => by rw [hR_mkx, if_neg this]⟩
  · have : ¬ a = hN G := by omega
    exact ⟨by rw [hI_mkx, if_neg this], by rw [hJ_mkx, if_neg this]⟩
theorem Sy.bmp {l f : List Nat} {G : AH} : Sy l f G (bmp G) := ⟨Nat.le_refl _, fun _ _ => ⟨rfl, rfl, fun _ => rfl⟩, fun _ _ _ _ _ => ⟨rfl, rfl⟩⟩
section
variable {d : Nat} {G G' : AH} {s : SGT} {h : Nat → Nat → Int64} {w : Int32} {et em : Nat} {rt rm : Nat → Nat} {l f : List Nat} {P : Nat → Bool}
theorem DK.sy (hD : DK s w et em rt rm G) (k : Sy l f G G') (ho : offX l f = true) : DK s w et em rt rm G' := by
  obtain ⟨b1, b2, b3, ⟨b4, b5⟩, ⟨b6, b7⟩, b8, b9⟩ := hD
  obtain ⟨k1, k2, k3⟩ := k
  have hb : ∀ a, a < hN G → (184 ≤ a ∨ a = 5 ∨ a = 6 ∨ a = 107 ∨ a = 109 ∨ a = 110 ∨ a = 111) → (∀ i, hI G' a i = hI G a i) ∧ ∀ i, hJ G' a i = hJ G a i := fun a hl ha => by
    have h1 : a ∉ l := fun q => by have := offX_l ho q; omega
    exact ⟨fun i => (k3 a i hl h1 (by omega)).1, fun i => (k3 a i hl h1 (by omega)).2⟩
  have h3 : 3 ∉ l := fun q => by have := offX_l ho q; omega
  have hf : ∀ i, (i = 2 ∨ i = 3 ∨ i = 4 ∨ i = 16 ∨ i = 45 ∨ i = 22 ∨ i = 0 ∨ i = 1) → hI G' 3 i = hI G 3 i ∧ hJ G' 3 i = hJ G 3 i := fun i hi => by
    have h1 : i ∉ f := fun q => by have := offX_f ho q; omega
    exact k3 3 i (by omega) h3 (fun q => h1 q.2)
  have hTL : ∀ a, a < hN G → hT G' a = hT G a ∧ hL G' a = hL G a := fun a ha => ⟨(k2 a ha).1, (k2 a ha).2.1⟩
  refine ⟨XS.of b1 (fun a f ha => (k2 a (by omega)).2.2 f) (fun a ha => hTL a (by omega)), by omega, ?_, ⟨b4.of k1 hTL ((hb _ (by omega) (by omega)).1 _) ((k2 _ (by omega)).2.2 _) b2, fun t ht => ?_⟩, ⟨b6.of k1 hTL ((hb _ (by omega) (by omega)).1 _) ((k2 _ (by omega)).2.2 _) b2, fun m hm => ?_⟩, b8, b9⟩
  · obtain ⟨c1, c2, c3, c4, c5, c6, c7, c8, c9, c10⟩ := b3
    exact ⟨(hf _ (by omega)).1.trans c1, (hf _ (by omega)).1.trans c2, (hf _ (by omega)).2.trans c3, (hf _ (by omega)).1.trans c4, (hf _ (by omega)).1.trans c5, (hf _ (by omega)).1.trans c6, (hf _ (by omega)).1.trans c7, (hf _ (by omega)).1.trans c8, fun t ht => ((hb _ (by omega) (by omega)).1 t).trans (c9 t ht), fun j hj => ⟨((hb _ (by omega) (by omega)).1 j).trans (c10 j hj).1, ((hb _ (by omega) (by omega)).1 j).trans (c10 j hj).2.1, ((hb _ (by omega) (by omega)).1 j).trans (c10 j hj).2.2⟩⟩
  · obtain ⟨c1, c2, c3, c4⟩ := b5 t ht
    have hr := hb (rt t) c2.2.1 (Or.inl c2.1)
    have hlt := b4.2.2.2.2.2.2.2.1
    exact ⟨by rw [(k2 et hlt).2.2]; exact c1, c2.of k1 (hTL _ c2.2.1).1 (fun i _ => hr.1 i) (fun i => (k2 _ c2.2.1).2.2 i), (hr.2 _).trans c3, (hr.1 _).trans c4⟩
  · obtain ⟨c1, c2, c3, c4⟩ := b7 m hm
    have h184 := c2.1
    have hlm := c2.2.1
    have hr := hb (rm m) (by omega) (Or.inl h184)
    have hr1 := hb (rm m + 1) (by omega) (Or.inl (by omega))
    have hr2 := hb (rm m + 2) (by omega) (Or.inl (by omega))
    have hlt := b6.2.2.2.2.2.2.2.1
    exact ⟨by rw [(k2 em hlt).2.2]; exact c1, c2.of k1 (fun j hj => hTL _ (by omega)) (fun i _ => hr.1 i) (fun i => (k2 _ (by omega)).2.2 i), fun c hc => ⟨(hr1.2 _).trans (c3 c hc).1, (hr2.2 _).trans (c3 c hc).2⟩, (hr.1 _).trans c4⟩
theorem CC.sy (hc : CC s G) (hN : 184 ≤ hN G) (k : Sy l f G G') (h1 : 7 ∉ l ∧ 10 ∉ l ∧ 3 ∉ l) (h2 : 11 ∉ f ∧ 12 ∉ f ∧ 13 ∉ f ∧ 15 ∉ f ∧ 47 ∉ f ∧ 48 ∉ f ∧ 49 ∉ f ∧ 50 ∉ f ∧ 51 ∉ f) : CC s G' := by
  obtain ⟨c1, c2, c3⟩ := hc
  obtain ⟨n1, n2, n3⟩ := h1
  obtain ⟨f1, f2, f3, f4, f5, f6, f7, f8, f9⟩ := h2
  have e : ∀ i, i ∉ f → hI G' 3 i = hI G 3 i := fun i hi => (k.2.2 _ _ (by omega) n3 (fun q => hi q.2)).1
  refine ⟨?_, ?_, ?_⟩
  · rw [e _ f1]
    rcases c1 with q | ⟨q1, q2⟩
    · exact Or.inl q
    · exact Or.inr ⟨q1, fun t ht => by rw [(k.2.2 _ _ (by omega) n1 (by omega)).2]; exact q2 t ht⟩
  · rw [e _ f2, e _ f3, e _ f4]
    rcases c2 with q | ⟨q1, q2, q3⟩
    · exact Or.inl q
    · exact Or.inr ⟨q1, q2, fun z => ⟨(q3 z).1, fun m hm => by rw [(k.2.2 _ _ (by omega) n2 (by omega)).1]; exact (q3 z).2 m hm⟩⟩
  · rw [e _ f5, e _ f6, e _ f7, e _ f8, e _ f9]
    exact c3
/-- a copy between two rows of ints -/
theorem cp_int {y pc a i b j n : Nat} {L : AL} {st : List AV} (ha : hT G a = 40) (hb : hT G b = 40) (hi : i + n ≤ hL G a) (hj : j + n ≤ hL G b) (hla : hL G a ≤ 65536) (hlb : hL G b ≤ 65536) : sCopy y pc L [vr (some a), vi (nI i), vr (some b), vi (nI j), vi (nI n)] st G = some (.inl (pc + 3, L, st, cpI G a i b j n)) := by
  show (if 40 ≤ hT G a ∧ hT G a < 60 ∧ 40 ≤ hT G b ∧ hT G b < 60 then _ else _) = _
  rw [ha, hb, if_pos (by decide), if_neg (fun z => absurd z.1 (by decide)), if_pos (by decide), if_pos, if_neg (by decide), if_neg (by decide), if_pos (by decide), if_pos, ix_ok (by omega), ix_ok (by omega), ix_ok (by omega)]
  · rfl
  · rw [List.all_eq_true]
    exact fun _ _ => rfl
  · refine ⟨?_, ?_, ?_, ?_, ?_⟩
    · exact Int32.le_iff_toInt_le.mpr (by rw [nI_toInt (by omega)]; show (0 : Int) ≤ _; omega)
    · exact Int32.le_iff_toInt_le.mpr (by rw [nI_toInt (by omega)]; show (0 : Int) ≤ _; omega)
    · exact Int32.le_iff_toInt_le.mpr (by rw [nI_toInt (by omega)]; show (0 : Int) ≤ _; omega)
    · rw [nI_toInt (by omega), nI_toInt (by omega)]; omega
    · rw [nI_toInt (by omega), nI_toInt (by omega)]; omega
theorem rX0_note_25 {n : Nat} {L : AL} (ha : hT G 12 = 40) (hb : hT G 106 = 40) (hi : n ≤ hL G 12) (hj : n ≤ hL G 106) (hla : hL G 12 ≤ 65536) (hlb : hL G 106 ≤ 65536) : At d 73 25 L [vi (nI n), vi (nI 0), vr (some 106), vi (nI 0), vr (some 12)] G = At d 73 28 L [] (cpI G 12 0 106 0 n) := At_copy (A := []) mc73 mk73 mr73 dX0_note_25 rfl (cp_int ha hb (by omega) (by omega) hla hlb) (by decide)
theorem xs_often (hX : XS G) {k : Nat} (hk : k < 9) : hR G 14 k = some (15 + k) ∧ hT G (15 + k) = 40 ∧ hL G (15 + k) = 64 := by
  have h : ∀ k, k < 9 → (14, k, 15 + k, 40, 64) ∈ xsU := by decide
  exact hX.2.2 _ (h k hk)
theorem xs_apart (hX : XS G) {k : Nat} (hk : k < 81) : hR G 24 k = some (25 + k) ∧ hT G (25 + k) = 40 ∧ hL G (25 + k) = 99 := by
  have h : ∀ k, k < 81 → (24, k, 25 + k, 40, 99) ∈ xsU := by decide
  exact hX.2.2 _ (h k hk)
end
