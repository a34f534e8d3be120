/-! the placings of a group: members, the search -/
theorem ct_nle {p : Nat → Bool} {a : Nat} : ∀ b, a ≤ b → ct p a ≤ ct p b
  | 0, h => by rw [show a = 0 by omega]; exact Nat.le_refl _
  | b + 1, h => by
    by_cases e : a = b + 1
    · rw [e]; exact Nat.le_refl _
    · have := ct_nle (p := p) (a := a) b (by omega)
      show _ ≤ ct p b + _
      omega
theorem ct_nlt {p : Nat → Bool} {a b : Nat} (h : a < b) (ha : p a = true) : ct p a < ct p b := by
  have h1 := ct_nle (p := p) (a := a + 1) b h
  have h2 : ct p (a + 1) = ct p a + 1 := by
    show ct p a + (if p a = true then 1 else 0) = _
    rw [if_pos ha]
  omega
theorem ct_inj {p : Nat → Bool} {a b : Nat} (ha : p a = true) (hb : p b = true) (h : ct p a = ct p b) : a = b := by
  rcases Nat.lt_trichotomy a b with q | q | q
  · have := ct_nlt q ha; omega
  · exact q
  · have := ct_nlt q hb; omega
/-- the i-th of those that are in -/
def mbr (p : Nat → Bool) : Nat → Nat → Nat
  | 0, _ => 0
  | n + 1, i => if p n = true ∧ ct p n = i then n else mbr p n i
theorem mbr_ok {p : Nat → Bool} {i : Nat} : ∀ n, i < ct p n → mbr p n i < n ∧ p (mbr p n i) = true ∧ ct p (mbr p n i) = i
  | 0, h => absurd h (Nat.not_lt_zero _)
  | n + 1, h => by
    unfold mbr
    split
    · next q => exact ⟨by omega, q.1, q.2⟩
    · next q =>
      have h2 : ct p (n + 1) = ct p n + (if p n = true then 1 else 0) := rfl
      have h3 : i < ct p n := by
        by_cases e : p n = true
        · rw [if_pos e] at h2
          have : ct p n ≠ i := fun z => q ⟨e, z⟩
          omega
        · rw [if_neg e] at h2; omega
      have := mbr_ok n h3
      exact ⟨by omega, this.2⟩
theorem mbr_ct {p : Nat → Bool} {u n : Nat} (hu : u < n) (hp : p u = true) : mbr p n (ct p u) = u := by
  have := mbr_ok (p := p) n (ct_nlt hu hp)
  exact ct_inj this.2.1 hp this.2.2
theorem mbr_inj {p : Nat → Bool} {n i j : Nat} (hi : i < ct p n) (hj : j < ct p n) (h : mbr p n i = mbr p n j) : i = j := by
  have h1 := (mbr_ok n hi).2.2
  have h2 := (mbr_ok n hj).2.2
  rw [h] at h1
  omega
abbrev ST : Type := Nat × List (Nat → Nat) × Bool
def sUp (a : Nat → Nat) (i c : Nat) : Nat → Nat := fun j => if j = i then c else a j
/-- one level, from cell c on: m cells are left -/
def sC (dom : Nat → Nat → Bool) (ok : Nat → (Nat → Nat) → Nat → Bool) (F : (Nat → Nat) → ST → ST) (i : Nat) (a : Nat → Nat) : Nat → Nat → ST → ST
  | 0, _, st => st
  | m + 1, c, st => if st.2.2 = true then st else if dom i c = true then (if st.1 = 60000 then (st.1, st.2.1, true) else sC dom ok F i a m (c + 1) (if ok i a c = true then F (sUp a i c) (st.1 + 1, st.2.1, false) else (st.1 + 1, st.2.1, false))) else sC dom ok F i a m (c + 1) st
/-- k levels are left -/
def sL (dom : Nat → Nat → Bool) (ok : Nat → (Nat → Nat) → Nat → Bool) : Nat → Nat → (Nat → Nat) → ST → ST
  | 0, _, a, st => (st.1, st.2.1 ++ [a], st.2.2)
  | k + 1, i, a, st => sC dom ok (fun a' st' => sL dom ok k (i + 1) a' st') i a 64 0 st
section
variable {dom : Nat → Nat → Bool} {ok : Nat → (Nat → Nat) → Nat → Bool}
theorem sC_sp {F : (Nat → Nat) → ST → ST} {i : Nat} {a : Nat → Nat} {m c : Nat} {st : ST} (h : st.2.2 = true) : sC dom ok F i a m c st = st := by
  cases m with
  | zero => rfl
  | succ m => unfold sC; rw [if_pos h]
/-- what a search has: so many tried, no more found -/
def SOK (st : ST) : Prop := st.1 ≤ 60000 ∧ st.2.1.length ≤ st.1
theorem sC_ok {F : (Nat → Nat) → ST → ST} {i : Nat} {a : Nat → Nat} (hF : ∀ a st, 1 ≤ st.1 → st.1 ≤ 60000 → st.2.1.length + 1 ≤ st.1 → SOK (F a st)) : ∀ m c st, SOK st → SOK (sC dom ok F i a m c st)
  | 0, _, _, h => h
  | m + 1, c, st, h => by
    unfold sC
    split
    · exact h
    · split
      · split
        · exact h
        · next q =>
          refine sC_ok hF m (c + 1) _ ?_
          have h1 := h.1
          have h2 := h.2
          split
          · refine hF _ _ ?_ ?_ ?_
            · show 1 ≤ st.1 + 1; omega
            · show st.1 + 1 ≤ 60000; omega
            · show st.2.1.length + 1 ≤ st.1 + 1; omega
          · exact ⟨by show st.1 + 1 ≤ 60000; omega, by show st.2.1.length ≤ st.1 + 1; omega⟩
      · exact sC_ok hF m (c + 1) st h
theorem sL_ok : ∀ k i a st, 1 ≤ st.1 → st.1 ≤ 60000 → st.2.1.length + 1 ≤ st.1 → SOK (sL dom ok k i a st)
  | 0, i, a, st, h1, h2, h3 => ⟨h2, by show (st.2.1 ++ [a]).length ≤ st.1; rw [List.length_append]; exact h3⟩
  | k + 1, i, a, st, h1, h2, h3 => sC_ok (fun a st => sL_ok k (i + 1) a st) 64 0 st ⟨h2, by omega⟩
theorem sL_ok1 {k i : Nat} {a : Nat → Nat} {st : ST} (h : SOK st) : SOK (sL dom ok (k + 1) i a st) := sC_ok (fun a st => sL_ok k (i + 1) a st) 64 0 st h
/-- every placing's cells are cells -/
def PB (n : Nat) (st : ST) : Prop := ∀ p ∈ st.2.1, ∀ i, i < n → p i < 64
theorem sC_pb {n : Nat} {F : (Nat → Nat) → ST → ST} {i : Nat} {a : Nat → Nat} (ha : ∀ j, j < i → a j < 64) (hF : ∀ a st, (∀ j, j < i + 1 → a j < 64) → PB n st → PB n (F a st)) : ∀ m c st, c + m = 64 → PB n st → PB n (sC dom ok F i a m c st)
  | 0, _, _, _, h => h
  | m + 1, c, st, hc, h => by
    unfold sC
    split
    · exact h
    · split
      · split
        · exact h
        · refine sC_pb ha hF m (c + 1) _ (by omega) ?_
          split
          · refine hF _ _ (fun j hj => ?_) h
            unfold sUp
            split
            · omega
            · exact ha j (by omega)
          · exact h
      · exact sC_pb ha hF m (c + 1) st (by omega) h
theorem sL_pb {n : Nat} : ∀ k i a st, i + k = n → (∀ j, j < i → a j < 64) → PB n st → PB n (sL dom ok k i a st)
  | 0, i, a, st, hk, ha, h => fun p hp j hj => by
    have hp : p ∈ st.2.1 ++ [a] := hp
    rw [List.mem_append] at hp
    rcases hp with q | q
    · exact h p q j hj
    · rw [List.mem_singleton] at q
      rw [q]
      exact ha j (by omega)
  | k + 1, i, a, st, hk, ha, h => sC_pb ha (fun a st ha h => sL_pb k (i + 1) a st (by omega) ha h) 64 0 st rfl h
end
/-- a measure between two lets them be so -/
def tgm (s : SGT) (u v a c m : Nat) : Bool := !onU s m || ((!decide (s 10 m = u ∧ s 11 m = v) || fw s m a c) && (!decide (s 11 m = u ∧ s 10 m = v) || fw s m c a))
def tg (s : SGT) (u v n a c : Nat) : Bool := (List.range n).all (fun m => tgm s u v a c m)
theorem tg_s {s : SGT} {u v n a c : Nat} : tg s u v (n + 1) a c = (tg s u v n a c && tgm s u v a c n) := by
  unfold tg
  rw [List.range_succ, List.all_append]
  simp
/-- another known thing is there -/
def otA (s : SGT) (P : Nat → Bool) (n c : Nat) : Bool := (List.range n).any (fun u => decide (0 < s 2 u) && (decide (s 3 u = c) && !P u))
def okS (s : SGT) (P : Nat → Bool) (i : Nat) (a : Nat → Nat) (c : Nat) : Bool := (decide (s 26 1 = 0) || !otA s P (s 0 2) c) && (List.range i).all (fun j => tg s (mbr P (s 0 2) j) (mbr P (s 0 2) i) (s 0 3) (a j) c && (decide (s 26 1 = 0) || decide (¬ a j = c)))
noncomputable def domS (s : SGT) (P : Nat → Bool) (i c : Nat) : Bool := nar s (onU s) (mbr P (s 0 2) i) c
noncomputable def srch (s : SGT) (t : Nat) : ST := if 9 < ct (grp s t) (s 0 2) then (0, [], true) else sL (domS s (grp s t)) (okS s (grp s t)) (ct (grp s t) (s 0 2)) 0 (fun _ => 0) (0, [], false)
theorem grp_t {s : SGT} {t : Nat} : grp s t t = true := by
  unfold grp
  split
  · exact clo_has (by simp)
  · simp
/-- a known thing is a group by itself -/
theorem grp_k {s : SGT} {t u : Nat} (h : grp s t u = true) (hk : 0 < s 2 u) : u = t ∧ ∀ v, grp s t v = true → v = t := by
  have h1 : ∀ v, s 2 t = 0 → grp s t v = true → s 2 v = 0 := fun v ht hv => by
    unfold grp at hv
    rw [if_pos ht] at hv
    have := clo_sub (R := fun v => decide (s 2 v = 0)) (fun v hv => by
      have : v = t := by simpa using hv
      rw [this]; exact decide_eq_true ht) (fun m _ hm => by
      unfold jn at hm
      rw [Bool.and_eq_true, Bool.and_eq_true] at hm
      exact hm.2) hv
    exact of_decide_eq_true this
  by_cases ht : s 2 t = 0
  · have := h1 u ht h; omega
  · unfold grp at h ⊢
    rw [if_neg ht] at h ⊢
    exact ⟨by simpa using h, fun v hv => by simpa using hv⟩
theorem srch_n {s : SGT} {t : Nat} (ht : t < s 0 2) : 1 ≤ ct (grp s t) (s 0 2) := by
  have := ct_nlt (p := grp s t) ht grp_t
  omega
theorem srch_ok {s : SGT} {t : Nat} (ht : t < s 0 2) : SOK (srch s t) ∧ PB (ct (grp s t) (s 0 2)) (srch s t) := by
  unfold srch
  split
  · exact ⟨⟨by decide, by decide⟩, fun p hp => absurd hp List.not_mem_nil⟩
  · obtain ⟨k, hk⟩ : ∃ k, ct (grp s t) (s 0 2) = k + 1 := ⟨_, (Nat.succ_pred_eq_of_pos (srch_n ht)).symm⟩
    refine ⟨?_, sL_pb _ _ _ _ (by omega) (fun j hj => absurd hj (Nat.not_lt_zero _)) (fun p hp => absurd hp List.not_mem_nil)⟩
    rw [hk]
    exact sL_ok1 ⟨by decide, by decide⟩
