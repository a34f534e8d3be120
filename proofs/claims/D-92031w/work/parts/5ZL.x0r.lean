/-! the class: a new measure -/
/-- an object of tag t was made last; what was there is as it was -/
def PBj (G B : AH) (t : Nat) : Prop := hN B = hN G + 1 ∧ Gb 1 14 G B ∧ hT B (hN G) = t ∧ ∀ x, x < hN G → hT B x = hT G x ∧ hL B x = hL G x ∧ (∀ i, hI B x i = hI G x i) ∧ (∀ i, hJ B x i = hJ G x i) ∧ ∀ i, hR B x i = hR G x i
/-- what Measure's constructor leaves: X, made over B -/
def N6 (G B X : AH) (t : Nat) (k a b n : Int32) : Prop := (hN X = hN G + 3 ∧ Gb 3 160 G X) ∧ hT X (hN G) = t ∧ (hI X (hN G) 142 = n ∧ hI X (hN G) 143 = k ∧ hI X (hN G) 144 = a ∧ hI X (hN G) 145 = b ∧ hI X (hN G) 146 = nI 1) ∧ (hR X (hN G) 147 = some (hN G + 1) ∧ hR X (hN G) 148 = some (hN G + 2) ∧ hR X (hN G) 149 = some 3 ∧ ∀ i, i ≠ 147 → i ≠ 148 → i ≠ 149 → hR X (hN G) i = hR B (hN G) i) ∧ (hT X (hN G + 1) = 41 ∧ hL X (hN G + 1) = 64 ∧ hT X (hN G + 2) = 41 ∧ hL X (hN G + 2) = 64) ∧ ∀ x, x < hN G → hT X x = hT G x ∧ hL X x = hL G x ∧ (∀ i, hI X x i = hI G x i) ∧ (∀ i, hJ X x i = hJ G x i) ∧ ∀ i, hR X x i = hR G x i
section
variable {d r m t : Nat} {G G' K H B X : AH} {s s' σ : SGT} {h h' : Nat → Nat → Int64} {w w' : Int32} {et em : Nat} {rt rm : Nat → Nat} {l f : List Nat} {k a b n p q : Int32}
theorem PBj.mk {c : Nat} (hc : c ≤ 14) : PBj G (mkx G t 0 1 c) t := ⟨rfl, ⟨Nat.le_add_right _ _, Nat.le_refl _, Nat.le_add_right _ _, Nat.add_le_add_left hc _⟩, by rw [hT_mkx, if_pos rfl], fun x hx => by
  have : ¬ x = hN G := by omega
  exact ⟨by rw [hT_mkx, if_neg this], by rw [hL_mkx, if_neg this], fun i => by rw [hI_mkx, if_neg this], fun i => by rw [hJ_mkx, if_neg this], fun i => by rw [hR_mkx, if_neg this]⟩⟩
theorem PBj.sR {i : Nat} {v : Option Nat} (hB : PBj G B t) : PBj G (sR B (hN G) i v) t := by
  obtain ⟨a1, a2, a3, a4⟩ := hB
  exact ⟨a1, a2, a3, fun x hx => ⟨(a4 x hx).1, (a4 x hx).2.1, (a4 x hx).2.2.1, (a4 x hx).2.2.2.1, fun j => by rw [hR_sR, if_neg (by omega)]; exact (a4 x hx).2.2.2.2 j⟩⟩
theorem N6.of6 (hB : PBj G B t) : N6 G B (i6 B (hN G) k a b n) t k a b n := by
  obtain ⟨h1, ⟨g1, g2, g3, g4⟩, h3, h4⟩ := hB
  have e1 : hN G + 1 = hN B := h1.symm
  have e2 : hN G + 2 = hN B + 1 := by omega
  unfold N6
  rw [e1, e2]
  refine ⟨⟨by rw [i6_N]; omega, ⟨by rw [i6_C.1]; omega, by rw [i6_C.1]; omega, by rw [i6_C.2]; omega, by rw [i6_C.2]; omega⟩⟩, by rw [i6_T, if_neg (by omega), if_neg (by omega)]; exact h3, ⟨?_, ?_, ?_, ?_, ?_⟩, ⟨?_, ?_, ?_, fun i z1 z2 z3 => ?_⟩, ⟨by rw [i6_T, if_neg (by omega), if_pos rfl], by rw [i6_L, if_neg (by omega), if_pos rfl], by rw [i6_T, if_pos rfl], by rw [i6_L, if_pos rfl]⟩, fun x hx => ?_⟩
  · rw [i6_I, if_neg (by omega), if_neg (by omega), if_neg (by omega), if_pos ⟨rfl, rfl⟩]
  · rw [i6_I, if_neg (by omega), if_neg (by omega), if_pos ⟨rfl, rfl⟩]
  · rw [i6_I, if_neg (by omega), if_pos ⟨rfl, rfl⟩]
  · rw [i6_I, if_pos ⟨rfl, rfl⟩]
  · rw [i6_I, if_neg (by omega), if_neg (by omega), if_neg (by omega), if_neg (by omega), if_neg (by omega), if_neg (by omega), if_pos ⟨rfl, rfl⟩]
  · rw [i6_R, if_neg (by omega), if_neg (by omega), if_pos ⟨rfl, rfl⟩]
  · rw [i6_R, if_pos ⟨rfl, rfl⟩]
  · rw [i6_R, if_neg (by omega), if_neg (by omega), if_neg (by omega), if_neg (by omega), if_pos ⟨rfl, rfl⟩]
  · rw [i6_R, if_neg (by omega), if_neg (by omega), if_neg (by omega), if_neg (by omega), if_neg (by omega)]
  · obtain ⟨p1, p2, p3, p4, p5⟩ := h4 x hx
    exact ⟨by rw [i6_T, if_neg (by omega), if_neg (by omega)]; exact p1, by rw [i6_L, if_neg (by omega), if_neg (by omega)]; exact p2, fun i => by rw [i6_I, if_neg (by omega), if_neg (by omega), if_neg (by omega), if_neg (by omega), if_neg (by omega), if_neg (by omega), if_neg (by omega)]; exact p3 i, fun i => by rw [i6_J, if_neg (by omega), if_neg (by omega)]; exact p4 i, fun i => by rw [i6_R, if_neg (by omega), if_neg (by omega), if_neg (by omega), if_neg (by omega), if_neg (by omega)]; exact p5 i⟩
theorem N6.sI {i : Nat} {v : Int32} (hf : N6 G B X t k a b n) (hi : i ≠ 142 ∧ i ≠ 143 ∧ i ≠ 144 ∧ i ≠ 145 ∧ i ≠ 146) : N6 G B (sI X (hN G) i v) t k a b n := by
  obtain ⟨⟨a1, a2⟩, a3, ⟨a4, a5, a6, a7, a8⟩, a9, a10, a11⟩ := hf
  exact ⟨⟨a1, a2⟩, a3, ⟨by rw [hI_sI, if_neg (by omega)]; exact a4, by rw [hI_sI, if_neg (by omega)]; exact a5, by rw [hI_sI, if_neg (by omega)]; exact a6, by rw [hI_sI, if_neg (by omega)]; exact a7, by rw [hI_sI, if_neg (by omega)]; exact a8⟩, a9, a10, fun x h1 => ⟨(a11 x h1).1, (a11 x h1).2.1, fun j => by rw [hI_sI, if_neg (by omega)]; exact (a11 x h1).2.2.1 j, (a11 x h1).2.2.2⟩⟩
/-- least, most -/
def N7 (G B X : AH) (t : Nat) (k a b p q n : Int32) : Prop := N6 G B X t k a b n ∧ hI X (hN G) 152 = p ∧ hI X (hN G) 153 = q
theorem N7.of7 (hB : PBj G B t) : N7 G (sR B (hN G) 154 (some 3)) (i7 B (hN G) k a b p q n) t k a b p q n := by
  have h1 : N6 G (sR B (hN G) 154 (some 3)) (i6 (sR B (hN G) 154 (some 3)) (hN G) k a b n) t k a b n := N6.of6 hB.sR
  unfold i7
  refine ⟨(h1.sI (by decide)).sI (by decide), ?_, ?_⟩
  · rw [hI_sI, if_neg (by omega), hI_sI, if_pos ⟨rfl, rfl⟩]
  · rw [hI_sI, if_pos ⟨rfl, rfl⟩]
theorem N7.sI {i : Nat} {v : Int32} (hf : N7 G B X t k a b p q n) (hi : i ≠ 142 ∧ i ≠ 143 ∧ i ≠ 144 ∧ i ≠ 145 ∧ i ≠ 146) (h2 : i ≠ 152 ∧ i ≠ 153) : N7 G B (sI X (hN G) i v) t k a b p q n := ⟨hf.1.sI hi, by rw [hI_sI, if_neg (by omega)]; exact hf.2.1, by rw [hI_sI, if_neg (by omega)]; exact hf.2.2⟩
theorem meK_ok {kk aa bb pp qq : Nat} (hk : kk ≤ 4) (h184 : 184 ≤ hN G) (e9 : σ 9 m = kk) (e10 : σ 10 m = aa) (e11 : σ 11 m = bb) (e12 : σ 12 m = if kk = 1 ∨ kk = 2 then 0 else pp) (e13 : σ 13 m = if kk = 3 then 0 else qq) (hp : ¬ (kk = 1 ∨ kk = 2) → p = nI pp) (hq : ¬ kk = 3 → q = nI qq) : hN (meK G kk (nI aa) (nI bb) p q (nI m)) = hN G + 3 ∧ Old 3 160 G (meK G kk (nI aa) (nI bb) p q (nI m)) ∧ ME σ m (hN G) (meK G kk (nI aa) (nI bb) p q (nI m)) ∧ hI (meK G kk (nI aa) (nI bb) p q (nI m)) (hN G) 146 = nI 1 := by
  have hfin : ∀ B X, N6 G B X (7 + kk) (nI kk) (nI aa) (nI bb) (nI m) → (kk = 3 → hI X (hN G) 150 = nI pp ∧ hR X (hN G) 151 = some 3) → (kk ≠ 3 → hI X (hN G) 152 = nI (if kk = 4 then 0 else if kk = 1 ∨ kk = 2 then 0 else pp) ∧ hI X (hN G) 153 = nI qq ∧ hR X (hN G) 154 = some 3) → (kk = 1 ∨ kk = 2 ∨ kk = 4 → hR X (hN G) 155 = some 3) → (kk = 2 → hR X (hN G) 180 = some 3) → (kk = 4 → hI X (hN G) 156 = nI pp ∧ hR X (hN G) 157 = some 3) → hN X = hN G + 3 ∧ Old 3 160 G X ∧ ME σ m (hN G) X ∧ hI X (hN G) 146 = nI 1 := by
    rintro B X ⟨⟨a1, a2⟩, a3, ⟨a4, a5, a6, a7, a8⟩, ⟨r1, r2, r3, r4⟩, ⟨t1, t2, t3, t4⟩, a11⟩ f3 f7 f8 f9 f11
    refine ⟨a1, ⟨by omega, a2, a11⟩, ?_, a8⟩
    unfold ME
    rw [e9, e10, e11, e12, e13]
    refine ⟨h184, by omega, a3, a4, a5, a6, a7, r1, r2, t1, t2, t3, t4, r3, fun z => ?_, fun z => ?_, f8, f9, fun z => ?_⟩
    · rw [if_neg (by omega)]; exact f3 z
    · rw [if_neg z]; exact f7 z
    · rw [if_neg (by omega)]; exact f11 z
  unfold meK
  rcases (show kk = 0 ∨ kk = 1 ∨ kk = 2 ∨ kk = 3 ∨ kk = 4 by omega) with rfl | rfl | rfl | rfl | rfl
  · rw [if_pos rfl]
    have hb : PBj G (mkx G 7 0 1 11) 7 := PBj.mk (by omega)
    have h1 := N7.of7 (k := nI 0) (a := nI aa) (b := nI bb) (p := p) (q := q) (n := nI m) hb
    obtain ⟨h2, h3, h4⟩ := h1
    refine hfin _ _ h2 (fun z => by omega) (fun _ => ⟨?_, ?_, ?_⟩) (fun z => by omega) (fun z => by omega) (fun z => by omega)
    · rw [h3, hp (by omega)]; rfl
    · rw [h4, hq (by omega)]
    · rw [h2.2.2.2.1.2.2.2 _ (by decide) (by decide) (by decide), hR_sR, if_pos ⟨rfl, rfl⟩]
  · rw [if_neg (by omega), if_pos rfl]
    have hb : PBj G (sR (mkx G 8 0 1 12) (hN G) 155 (some 3)) 8 := (PBj.mk (by omega)).sR
    unfold i8
    have h1 := N7.of7 (k := nI 1) (a := nI aa) (b := nI bb) (p := nI 0) (q := q) (n := nI m) hb
    obtain ⟨h2, h3, h4⟩ := h1
    refine hfin _ _ h2 (fun z => by omega) (fun _ => ⟨?_, ?_, ?_⟩) (fun z => ?_) (fun z => by omega) (fun z => by omega)
    · rw [h3]; rfl
    · rw [h4, hq (by omega)]
    · rw [h2.2.2.2.1.2.2.2 _ (by decide) (by decide) (by decide), hR_sR, if_pos ⟨rfl, rfl⟩]
    · rw [h2.2.2.2.1.2.2.2 _ (by decide) (by decide) (by decide), hR_sR, if_neg (by omega), hR_sR, if_pos ⟨rfl, rfl⟩]
  · rw [if_neg (by omega), if_neg (by omega), if_pos rfl]
    have hb : PBj G (sR (sR (mkx G 9 0 1 13) (hN G) 180 (some 3)) (hN G) 155 (some 3)) 9 := ((PBj.mk (by omega)).sR).sR
    unfold i8
    have h1 := N7.of7 (k := nI 2) (a := nI aa) (b := nI bb) (p := nI 0) (q := q) (n := nI m) hb
    obtain ⟨h2, h3, h4⟩ := h1
    refine hfin _ _ h2 (fun z => by omega) (fun _ => ⟨?_, ?_, ?_⟩) (fun z => ?_) (fun z => ?_) (fun z => by omega)
    · rw [h3]; rfl
    · rw [h4, hq (by omega)]
    · rw [h2.2.2.2.1.2.2.2 _ (by decide) (by decide) (by decide), hR_sR, if_pos ⟨rfl, rfl⟩]
    · rw [h2.2.2.2.1.2.2.2 _ (by decide) (by decide) (by decide), hR_sR, if_neg (by omega), hR_sR, if_pos ⟨rfl, rfl⟩]
    · rw [h2.2.2.2.1.2.2.2 _ (by decide) (by decide) (by decide), hR_sR, if_neg (by omega), hR_sR, if_neg (by omega), hR_sR, if_pos ⟨rfl, rfl⟩]
  · rw [if_neg (by omega), if_neg (by omega), if_neg (by omega), if_pos rfl]
    have hb : PBj G (sR (mkx G 10 0 1 10) (hN G) 151 (some 3)) 10 := (PBj.mk (by omega)).sR
    have h1 : N6 G _ (i6 (sR (mkx G 10 0 1 10) (hN G) 151 (some 3)) (hN G) (nI 3) (nI aa) (nI bb) (nI m)) 10 (nI 3) (nI aa) (nI bb) (nI m) := N6.of6 hb
    have h2 := h1.sI (i := 150) (v := p) (by decide)
    refine hfin _ _ h2 (fun _ => ⟨?_, ?_⟩) (fun z => by omega) (fun z => by omega) (fun z => by omega) (fun z => by omega)
    · rw [hI_sI, if_pos ⟨rfl, rfl⟩, hp (by omega)]
    · rw [h2.2.2.2.1.2.2.2 _ (by decide) (by decide) (by decide), hR_sR, if_pos ⟨rfl, rfl⟩]
  · rw [if_neg (by omega), if_neg (by omega), if_neg (by omega), if_neg (by omega)]
    have hb : PBj G (sR (sR (mkx G 11 0 1 14) (hN G) 157 (some 3)) (hN G) 155 (some 3)) 11 := ((PBj.mk (by omega)).sR).sR
    unfold i8
    have h1 := N7.of7 (k := nI 4) (a := nI aa) (b := nI bb) (p := nI 0) (q := q) (n := nI m) hb
    have h1' := h1.sI (i := 156) (v := p) (by decide) (by decide)
    obtain ⟨h2, h3, h4⟩ := h1'
    refine hfin _ _ h2 (fun z => by omega) (fun _ => ⟨?_, ?_, ?_⟩) (fun z => ?_) (fun z => by omega) (fun z => ⟨?_, ?_⟩)
    · rw [h3]; rfl
    · rw [h4, hq (by omega)]
    · rw [h2.2.2.2.1.2.2.2 _ (by decide) (by decide) (by decide), hR_sR, if_pos ⟨rfl, rfl⟩]
    · rw [h2.2.2.2.1.2.2.2 _ (by decide) (by decide) (by decide), hR_sR, if_neg (by omega), hR_sR, if_pos ⟨rfl, rfl⟩]
    · rw [hI_sI, if_pos ⟨rfl, rfl⟩, hp (by omega)]
    · rw [h2.2.2.2.1.2.2.2 _ (by decide) (by decide) (by decide), hR_sR, if_neg (by omega), hR_sR, if_neg (by omega), hR_sR, if_pos ⟨rfl, rfl⟩]
end
