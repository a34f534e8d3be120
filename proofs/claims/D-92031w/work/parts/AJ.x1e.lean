/-! the class: back -/
def bkW (s : SGT) (k : Nat) : SGT := fun c i => if c = 1 then s 1 i else bkS s k c i
section
variable {d k n m0 : Nat} {G H K : AH} {s σ σ' : SGT} {h : Nat → Nat → Int64} {w : Int32} {et em : Nat} {rt rm : Nat → Nat} {l f : List Nat} {c z : Nat}
theorem bkW_ne {c : Nat} (hc : c ≠ 1) : bkW s k c = bkS s k c := by
  funext i
  exact if_neg hc
theorem SB.bk (hS : SB (img k s)) : SB (bkS s k) := by
  have e : ∀ g, g ≤ 17 → ¬ (g = 5 ∨ g = 14) → bkS s k g = img k s g := fun g h1 h2 => bkS_lo h1 h2
  have e26 : ∀ i, i ≤ 1 → bkS s k 26 i = img k s 26 i := fun i hi => by
    unfold bkS
    rw [if_pos (Or.inr ⟨rfl, hi⟩), bkv_ne (by decide)]
  have e5 : ∀ t, t < img k s 0 2 → bkS s k 5 t = img k s 5 t := fun t ht => by
    unfold bkS
    rw [if_pos (Or.inl (by decide))]
    show (if _ then _ else _) = _
    rw [if_pos (by decide), oz_1 (hS.2.2.1 t ht).2.2.2.1]
  have e14 : ∀ m, m < img k s 0 3 → bkS s k 14 m = img k s 14 m := fun m hm => by
    unfold bkS
    rw [if_pos (Or.inl (by decide))]
    show (if _ then _ else _) = _
    rw [if_pos (by decide), oz_1 (hS.2.2.2.2.2.1 m hm).2.2.2.2.2.2.1]
  have hic : isC (bkS s k) = isC (img k s) := isC_agr (by rw [e 0 (by decide) (by decide)]) (by rw [e 0 (by decide) (by decide)])
  have hfr : fre (bkS s k) = fre (img k s) := fre_agr (by rw [e 0 (by decide) (by decide)]) (by rw [e 0 (by decide) (by decide)]) (e 1 (by decide) (by decide))
  obtain ⟨a1, a2, a3, a4, a5, a6, a7⟩ := hS
  unfold SB
  rw [hic, hfr, e 0 (by decide) (by decide), e 1 (by decide) (by decide), e 2 (by decide) (by decide), e 3 (by decide) (by decide), e 4 (by decide) (by decide), e 6 (by decide) (by decide), e 7 (by decide) (by decide), e 8 (by decide) (by decide), e 9 (by decide) (by decide), e 10 (by decide) (by decide), e 11 (by decide) (by decide), e 12 (by decide) (by decide), e 13 (by decide) (by decide), e 15 (by decide) (by decide), e 16 (by decide) (by decide), e 17 (by decide) (by decide), e26 0 (by decide), e26 1 (by decide)]
  exact ⟨a1, a2, fun t ht => by rw [e5 t ht]; exact a3 t ht, a4, a5, fun m hm => by rw [e14 m hm]; exact a6 m hm, a7⟩
theorem kpt4 {m : Nat} (h : ∀ g, g = 9 ∨ g = 12 ∨ g = 13 → σ' g = σ g) (h4 : σ 9 m ≠ 4) (hm : σ 9 m ≤ 4) : kpt σ' m = kpt σ m := by
  funext c e
  unfold kpt
  rw [h 9 (by omega), h 12 (by omega), h 13 (by omega)]
  rcases (show σ 9 m = 0 ∨ σ 9 m = 1 ∨ σ 9 m = 2 ∨ σ 9 m = 3 by omega) with q | q | q | q <;> rw [q] <;> rfl
end
