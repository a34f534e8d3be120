/-! the class: a sheet's cells change -/
/-- only the array r has changed -/
def Ly (r : Nat) (G K : AH) : Prop := hN K = hN G ∧ hT K = hT G ∧ hL K = hL G ∧ (∀ a i, hR K a i = hR G a i) ∧ (∀ a i, a ≠ r → hI K a i = hI G a i) ∧ (∀ a i, a ≠ r → hJ K a i = hJ G a i) ∧ Gb 0 0 G K
section
variable {d n r m : Nat} {G G' K : AH} {s s' σ : SGT} {h h' : Nat → Nat → Int64} {w w' : Int32} {et em : Nat} {rt rm : Nat → Nat} {l f : List Nat} {P : Nat → Bool}
theorem Ly.sI {i : Nat} {v : Int32} : Ly r G (sI G r i v) := ⟨rfl, rfl, rfl, fun _ _ => rfl, fun a i q => by rw [hI_sI, if_neg (fun z => q z.1)], fun _ _ _ => rfl, Gb.refl G⟩
theorem Ly.sJ {i : Nat} {v : Int64} : Ly r G (sJ G r i v) := ⟨rfl, rfl, rfl, fun _ _ => rfl, fun _ _ _ => rfl, fun a i q => by rw [hJ_sJ, if_neg (fun z => q z.1)], Gb.refl G⟩
theorem Ly.fq (k : Ly r G K) (hr : 184 ≤ r) : Fq 0 0 G K := by
  obtain ⟨k1, k2, k3, k4, k5, k6, k7⟩ := k
  exact ⟨⟨by omega, fun a ha => ⟨by rw [k2], by rw [k3], k4 a, fun i => k5 a i (by omega), fun i => k6 a i (by omega)⟩⟩, k7⟩
theorem TH.ly {t q : Nat} (hh : TH σ t q G) (k : Ly r G K) (hb : σ 2 t ≤ 2) (ht : 40 ≤ hT G r) : TH σ t q K := by
  obtain ⟨k1, k2, k3, k4, k5, k6, k7⟩ := k
  have := hh.2.2.1
  exact hh.of (by omega) (by rw [k2]) (fun i _ => k5 _ _ (by rintro rfl; omega)) (fun i => k4 _ _)
theorem ME.ly {t q : Nat} (hh : ME σ t q G) (k : Ly r G K) (hb : σ 9 t ≤ 4) (ht : 40 ≤ hT G r) : ME σ t q K := by
  obtain ⟨k1, k2, k3, k4, k5, k6, k7⟩ := k
  have := hh.2.2.1
  exact hh.of (by omega) (fun j _ => by rw [k2, k3]; exact ⟨rfl, rfl⟩) (fun i _ => k5 _ _ (by rintro rfl; omega)) (fun i => k4 _ _)
theorem MR.ly {t q : Nat} (hh : ME σ t q G) (hr : MR σ t q G) (k : Ly r G K) (hb : σ 9 t ≤ 4) (n1 : NM G (r - 1)) (n2 : NM G (r - 2)) : MR σ t q K := fun c hc => by
  obtain ⟨k1, k2, k3, k4, k5, k6, k7⟩ := k
  have h3 := hh.2.2.1
  have e1 : q + 1 ≠ r := fun e => by
    rw [← e, Nat.add_sub_cancel] at n1
    unfold NM at n1
    omega
  have e2 : q + 2 ≠ r := fun e => by
    rw [← e, Nat.add_sub_cancel] at n2
    unfold NM at n2
    omega
  exact ⟨(k6 _ _ e1).trans (hr c hc).1, (k6 _ _ e2).trans (hr c hc).2⟩
theorem DK.ly (hD : DK s w et em rt rm G) (hS : SB s) (k : Ly r G K) (hr : 184 ≤ r) (ht : 40 ≤ hT G r) (n1 : NM G (r - 1)) (n2 : NM G (r - 2)) : DK s w et em rt rm K := by
  have k0 := k
  obtain ⟨b1, b2, b3, ⟨b4, b5⟩, ⟨b6, b7⟩, b8, b9⟩ := hD
  obtain ⟨k1, k2, k3, k4, k5, k6, k7⟩ := k
  have hTL : ∀ a, a < hN G → hT K a = hT G a ∧ hL K a = hL G a := fun a _ => by rw [k2, k3]; exact ⟨rfl, rfl⟩
  refine ⟨XS.of b1 (fun a f _ => k4 _ _) (fun a _ => by rw [k2, k3]; exact ⟨rfl, rfl⟩), by omega, CR.of b3 (fun i _ => ⟨k5 _ _ (by omega), k6 _ _ (by omega)⟩) (fun a i _ => k5 _ _ (by omega)), ⟨b4.of (by omega) hTL (k5 _ _ (by omega)) (k4 _ _) b2, fun t ht' => ?_⟩, ⟨b6.of (by omega) hTL (k5 _ _ (by omega)) (k4 _ _) b2, fun m hm' => ?_⟩, b8, b9⟩
  · obtain ⟨c1, c2, c3, c4⟩ := b5 t ht'
    have hb := (hS.2.2.1 t ht').1
    have hne : rt t ≠ r := by rintro rfl; have := c2.2.2.1; omega
    exact ⟨(k4 _ _).trans c1, c2.ly k0 hb ht, (k6 _ _ hne).trans c3, (k5 _ _ hne).trans c4⟩
  · obtain ⟨c1, c2, c3, c4⟩ := b7 m hm'
    have hb := (hS.2.2.2.2.2.1 m hm').1
    have hne : rm m ≠ r := by rintro rfl; have := c2.2.2.1; omega
    exact ⟨(k4 _ _).trans c1, c2.ly k0 hb ht, MR.ly c2 c3 k0 hb n1 n2, (k5 _ _ hne).trans c4⟩
theorem CC.ly (hc : CC s G) (k : Ly r G K) (hr : 184 ≤ r) : CC s K := by
  obtain ⟨c1, c2, c3⟩ := hc
  obtain ⟨k1, k2, k3, k4, k5, k6, k7⟩ := k
  refine ⟨?_, ?_, ?_⟩
  · rw [k5 _ _ (by omega)]
    exact c1.imp id fun q => ⟨q.1, fun t ht => (k6 _ _ (by omega)).trans (q.2 t ht)⟩
  · rw [k5 _ _ (by omega), k5 _ _ (by omega), k5 _ _ (by omega)]
    exact c2.imp id fun q => ⟨q.1, q.2.1, fun z => ⟨(q.2.2 z).1, fun m hm => (k5 _ _ (by omega)).trans ((q.2.2 z).2 m hm)⟩⟩
  · rw [k5 _ _ (by omega), k5 _ _ (by omega), k5 _ _ (by omega), k5 _ _ (by omega), k5 _ _ (by omega)]
    exact c3
theorem IMG.ly {x pt pm et' em' bx tr on mp mv : Nat} {rt' rm' : Nat → Nat} (hB : SB σ) (hi : IMG σ x pt pm et' em' rt' rm' bx tr on mp mv G) (k : Ly r G K) (h184 : 184 ≤ hN G) (hr : 184 ≤ r) (ht : 40 ≤ hT G r ∧ hT G r ≤ 43) (n1 : NM G (r - 1)) (n2 : NM G (r - 2)) (e1 : r ≠ bx) (e2 : r ≠ mp) (e3 : r ≠ mv) : IMG σ x pt pm et' em' rt' rm' bx tr on mp mv K := by
  have k0 := k
  obtain ⟨k1, k2, k3, k4, k5, k6, k7⟩ := k
  obtain ⟨⟨i1, i2, i3, i4⟩, ⟨i5, i6, i7, i8, i9⟩, ⟨i10, i11, i12, i13, i14, i15, i16⟩, ⟨i17, i18, i19, i20⟩, ⟨i21, i22, i23, i24⟩, ⟨u1, u2, u3, u4, u5, u6, u7⟩, ⟨v1, v2', v3, v4, v5⟩, ⟨w1, w2, w3', w4, w5⟩, ⟨x1, x2, x3, x4, x5⟩, ⟨y1, y2, y3, y4, y5⟩⟩ := hi
  have ht0 := i18.1
  have hm0 := i22.1
  have hTL : ∀ a, a < hN G → hT K a = hT G a ∧ hL K a = hL G a := fun a _ => by rw [k2, k3]; exact ⟨rfl, rfl⟩
  have hx : x ≠ r := by rintro rfl; omega
  have hpt : pt ≠ r := by rintro rfl; omega
  have hpm : pm ≠ r := by rintro rfl; omega
  have htr : tr ≠ r := by rintro rfl; omega
  have hon : on ≠ r := by rintro rfl; omega
  have f := k5 x
  exact ⟨⟨i1, by omega, by rw [k2]; exact i3, (k5 _ _ hx).trans i4⟩, ⟨(k5 _ _ hx).trans i5, (k5 _ _ hx).trans i6, (k6 _ _ hx).trans i7, (k5 _ _ hx).trans i8, (k5 _ _ hx).trans i9⟩, ⟨(k4 _ _).trans i10, (k4 _ _).trans i11, (k4 _ _).trans i12, (k4 _ _).trans i13, (k4 _ _).trans i14, (k4 _ _).trans i15, (k4 _ _).trans i16⟩, ⟨i17, i18.of (by omega) hTL (k5 _ _ hpt) (k4 _ _) h184, i19, fun t ht' => ⟨(k4 _ _).trans (i20 t ht').1, (i20 t ht').2.ly k0 (hB.2.2.1 t ht').1 ht.1⟩⟩, ⟨i21, i22.of (by omega) hTL (k5 _ _ hpm) (k4 _ _) h184, i23, fun m hm => ⟨(k4 _ _).trans (i24 m hm).1, (i24 m hm).2.1.ly k0 (hB.2.2.2.2.2.1 m hm).1 ht.1, fun z4 => MR.ly (i24 m hm).2.1 ((i24 m hm).2.2 z4) k0 (hB.2.2.2.2.2.1 m hm).1 n1 n2⟩⟩, ⟨u1, by omega, by rw [k2]; exact u3, by rw [k3]; exact u4, u5.of (by rw [k2]), u6.of (by rw [k2]), fun t ht => (k6 _ _ (Ne.symm e1)).trans (u7 t ht)⟩, ⟨v1, by omega, by rw [k2]; exact v3, by rw [k3]; exact v4, fun t ht => (k5 _ _ htr).trans (v5 t ht)⟩, ⟨w1, by omega, by rw [k2]; exact w3', by rw [k3]; exact w4, fun t ht => (k5 _ _ hon).trans (w5 t ht)⟩, ⟨x1, by omega, by rw [k2]; exact x3, by rw [k3]; exact x4, fun t ht => (k5 _ _ (Ne.symm e2)).trans (x5 t ht)⟩, ⟨y1, by omega, by rw [k2]; exact y3, by rw [k3]; exact y4, fun t ht => ⟨(k5 _ _ (Ne.symm e3)).trans (y5 t ht).1, (k5 _ _ (Ne.symm e3)).trans (y5 t ht).2.1, (k5 _ _ (Ne.symm e3)).trans (y5 t ht).2.2⟩⟩⟩
/-- a sheet's array: what is known of it -/
theorem CI.sht (hIn : CI s h w G) {k : Nat} (hk : k < 4) : (s 23 k = 0 → hR G (132 + k) 141 = none) ∧ (0 < s 23 k → ∃ r, hR G (132 + k) 141 = some r ∧ 184 ≤ r ∧ r < hN G ∧ hT G r = ltg (s 24 k) ∧ hL G r + 1 = s 23 k ∧ NM G (r - 1) ∧ NM G (r - 2) ∧ ∀ i, i + 1 < s 23 k → shV G r (s 24 k) i = h k i) := by
  obtain ⟨et, em, rt, rm, hD, hC, hX⟩ := hIn
  obtain ⟨rs, c3, -⟩ := hX.2.2.1
  exact ⟨(c3 k hk).1, fun z => ⟨rs k, (c3 k hk).2 z⟩⟩
theorem ltg_r {L : Nat} : 40 ≤ ltg L ∧ ltg L ≤ 43 := by unfold ltg; split <;> (try split) <;> (try split) <;> omega
theorem CI.ly (hSI : SI s) (hIn : CI s h w G) {k : Nat} (hk : k < 4) (hz : 0 < s 23 k) (hr : hR G (132 + k) 141 = some r) (v : Ly r G K) (hv : ∀ i, i + 1 < s 23 k → shV K r (s 24 k) i = h' k i) (ho : ∀ j, j ≠ k → h' j = h j) : CI s h' w K := by
  obtain ⟨et, em, rt, rm, hD, hC, hX⟩ := hIn
  have h184 := hD.2.1
  obtain ⟨⟨a, b, c, e, f1, f2, f3, f4, f5, f6, f7, f8⟩, c2, ⟨rs, c3, c3'⟩, c4, c5, m1, m2⟩ := hX
  obtain ⟨q1, q2, q3, q4, q5, q6, q7, q8⟩ := (c3 k hk).2 hz
  rw [hr] at q1
  cases q1
  have hlt := ltg_r (L := s 24 k)
  have v0 := v
  obtain ⟨k1, k2, k3, k4, k5, k6, k7⟩ := v
  refine ⟨et, em, rt, rm, hD.ly hSI.1 v0 q2 (by omega) q6 q7, hC.ly v0 q2, ⟨a, b, c, e, f1, f2, f3, f4, (k5 _ _ (by omega)).trans f5, (k5 _ _ (by omega)).trans f6, (k5 _ _ (by omega)).trans f7, (k5 _ _ (by omega)).trans f8⟩, (k5 _ _ (by omega)).trans c2, ⟨rs, fun j hj => ⟨fun z => (k4 _ _).trans ((c3 j hj).1 z), fun z => ?_⟩, c3'⟩, fun j hj => ?_, fun j hj => ⟨fun z => (k4 _ _).trans ((c5 j hj).1 z), fun z => ?_⟩, by rw [k1]; exact m1.of (by rw [k2]), by rw [k1]; exact m2.of (by rw [k2])⟩
  · obtain ⟨p1, p2, p3, p4, p5, p6, p7, p8⟩ := (c3 j hj).2 z
    refine ⟨(k4 _ _).trans p1, p2, by omega, by rw [k2]; exact p4, by rw [k3]; exact p5, p6.of (by rw [k2]), p7.of (by rw [k2]), fun i hi => ?_⟩
    by_cases e : j = k
    · subst e
      exact hv i hi
    · have hne := c3' j k hj hk e z hz
      rw [ho j e]
      unfold shV
      rw [k5 _ _ hne, k6 _ _ hne]
      exact p8 i hi
  · rcases c4 j hj with ⟨p1, p2⟩ | ⟨p1, σ, q, p2, p3, p4, p5, p6⟩ | ⟨p1, σ, q, p2, p3, p4, p5, p6⟩
    · exact Or.inl ⟨p1, (k4 _ _).trans p2⟩
    · exact Or.inr (Or.inl ⟨p1, σ, q, (k4 _ _).trans p2, p3.ly v0 (by omega) (by omega), p4, p5, p6⟩)
    · exact Or.inr (Or.inr ⟨p1, σ, q, (k4 _ _).trans p2, p3.ly v0 (by omega) (by omega), p4, p5, p6⟩)
  · obtain ⟨x, pt, pm, et', em', rt', rm', bx, tr, on, mp, mv, p1, p2, p3, p4, p5, p6, p7⟩ := (c5 j hj).2 z
    have p8 := p7 k hk
    rw [hr] at p8
    exact ⟨x, pt, pm, et', em', rt', rm', bx, tr, on, mp, mv, (k4 _ _).trans p1, p2.ly ((hSI.2.1 j hj).2 z) v0 h184 q2 (by omega) q6 q7 (fun e => p8.1 (by rw [e])) (fun e => p8.2.1 (by rw [e])) (fun e => p8.2.2 (by rw [e])), p3, p4, ⟨p5.1, by rw [k3]; exact p5.2.1, by rw [k3]; exact p5.2.2⟩, p6, fun j hj => by rw [k4]; exact p7 j hj⟩
end
