/-! the pure state's words -/
abbrev SGT : Type := Nat → Nat → Nat
def isC (s : SGT) (c : Nat) : Bool := decide (c < 64) && (decide (c % 8 < s 0 0) && decide (c / 8 < s 0 1))
def fre (s : SGT) (c : Nat) : Bool := isC s c && decide (s 1 c = 0)
def inbox (s : SGT) (t c : Nat) : Bool := decide (s 4 (4 * t) ≤ c % 8 ∧ c % 8 ≤ s 4 (4 * t + 2)) && decide (s 4 (4 * t + 1) ≤ c / 8 ∧ c / 8 ≤ s 4 (4 * t + 3))
def told (s : SGT) (t c : Nat) : Bool := if s 2 t = 0 then fre s c && inbox s t c else decide (c = s 3 t)
/-- the sides: right, down, left, up -/
def sid (p c d : Nat) : Bool := if p = 0 then decide (c % 8 < d % 8) && decide (dif (c / 8) (d / 8) ≤ d % 8 - c % 8) else if p = 1 then decide (c / 8 < d / 8) && decide (dif (c % 8) (d % 8) ≤ d / 8 - c / 8) else if p = 2 then decide (d % 8 < c % 8) && decide (dif (c / 8) (d / 8) ≤ c % 8 - d % 8) else decide (d / 8 < c / 8) && decide (dif (c % 8) (d % 8) ≤ c / 8 - d / 8)
def kpt (s : SGT) (m c d : Nat) : Bool := if s 9 m = 0 then decide (s 12 m ≤ fr c d) && decide (fr c d ≤ s 13 m) else if s 9 m = 1 then decide (fr c d ≤ s 13 m) else if s 9 m = 2 then decide (s 13 m < fr c d) else if s 9 m = 3 then sid (s 12 m) c d else fre s c && fre s d && lev (fre s) (s 13 m) c (s 12 m) d
def fw (s : SGT) (m c d : Nat) : Bool := isC s c && isC s d && kpt s m c d
/-- what a desk's numbers are -/
def SB (s : SGT) : Prop := (1 ≤ s 0 0 ∧ s 0 0 ≤ 8 ∧ 1 ≤ s 0 1 ∧ s 0 1 ≤ 8 ∧ s 0 2 ≤ 24 ∧ s 0 3 ≤ 60 ∧ s 26 0 ≤ 3 ∧ s 26 1 ≤ 1) ∧
  (∀ c, c < 64 → s 1 c ≤ 1 ∧ (s 1 c = 1 → isC s c = true)) ∧
  (∀ t, t < s 0 2 → s 2 t ≤ 2 ∧ (s 2 t = 0 → s 3 t = 1000) ∧ (0 < s 2 t → s 3 t < 64 ∧ fre s (s 3 t) = true) ∧ s 5 t ≤ 1 ∧ (s 6 t = 1000 ∨ s 6 t < 3) ∧ (s 7 t = 1000 ∨ s 7 t < 8)) ∧
  (∀ i, i < 96 → s 4 i ≤ 7) ∧ (∀ t, t < 24 → s 8 t = 1000 ∨ (t < s 0 2 ∧ s 8 t < 64 ∧ isC s (s 8 t) = true)) ∧
  (∀ m, m < s 0 3 → s 9 m ≤ 4 ∧ s 10 m < s 0 2 ∧ s 11 m < s 0 2 ∧ s 10 m ≠ s 11 m ∧ s 12 m ≤ 98 ∧ s 13 m ≤ 98 ∧ s 14 m ≤ 1 ∧ (s 9 m = 1 ∨ s 9 m = 2 → s 12 m = 0) ∧ (s 9 m = 3 → s 12 m ≤ 3 ∧ s 13 m = 0)) ∧
  ∀ k, k < s 26 0 → s 15 k + s 16 k ≤ s 0 2 ∧ 2 ≤ s 16 k ∧ s 16 k ≤ 8 ∧ s 17 k ≤ 98
/-- an image's numbers -/
def img (k : Nat) (s : SGT) : SGT := fun f i => s (32 * (k + 1) + f) i
def SI (s : SGT) : Prop := SB s ∧ (∀ k, k < 2 → s 25 k ≤ 1 ∧ (s 25 k = 1 → SB (img k s))) ∧
  (∀ k, k < 8 → (s 18 k = 1000 ∨ s 18 k = 0 ∨ s 18 k = 1) ∧ s 19 k < 60 ∧ s 20 k ≤ 4 ∧ s 21 k ≤ 200 ∧ (s 22 k = 1000 ∨ s 22 k ≤ 200)) ∧
  (∀ k, k < 4 → s 23 k ≤ 65 ∧ s 24 k ≤ 3) ∧ s 26 3 ≤ 4 ∧ s 26 2 ≤ 60000
theorem isC_iff {s : SGT} {c : Nat} : isC s c = true ↔ c < 64 ∧ c % 8 < s 0 0 ∧ c / 8 < s 0 1 := by
  unfold isC
  simp [Bool.and_eq_true]
/-- an argument in a span, or not -/
def inL (v l h : Int) : Bool := decide (l ≤ v ∧ v ≤ h)
theorem arg_of (x : Int32) (n : Nat) (hn : n ≤ 2147483648) : (∃ c, c < n ∧ x = nI c) ∨ ¬ (0 ≤ x.toInt ∧ x.toInt < (n : Int)) := by
  by_cases h : 0 ≤ x.toInt ∧ x.toInt < (n : Int)
  · left
    refine ⟨x.toInt.toNat, by omega, ?_⟩
    apply Int32.toInt_inj.mp
    rw [nI_toInt (by omega)]
    omega
  · exact Or.inr h
theorem toInt_l (x : Int32) : x.toInt64.toInt = x.toInt := Int32.toInt_toInt64 x
theorem toInt_l1 {n : Nat} (h : n < 2147483648) : ((nI n).toInt64 - 1).toInt = (n : Int) - 1 := by
  rw [Int64.toInt_sub, toInt_l, nI_toInt h]
  show ((n : Int) - 1).bmod _ = _
  exact Int.bmod_eq_of_le (by omega) (by omega)
theorem toInt_nI {n : Nat} (h : n < 2147483648) : (nI n).toInt = (n : Int) := nI_toInt h
theorem inL_t {v l h : Int} (h1 : l ≤ v) (h2 : v ≤ h) : inL v l h = true := decide_eq_true ⟨h1, h2⟩
theorem inL_f {v l h : Int} (h1 : v < l ∨ h < v) : inL v l h = false := decide_eq_false (by omega)
def inR (x : Int32) (n : Nat) : Bool := decide (0 ≤ x.toInt ∧ x.toInt < (n : Int))
theorem inR_nI {c n : Nat} (hc : c < 2147483648) : inR (nI c) n = decide (c < n) := by
  unfold inR
  rw [nI_toInt hc]
  by_cases h : c < n
  · rw [decide_eq_true h]; exact decide_eq_true (by omega)
  · rw [decide_eq_false h]; exact decide_eq_false (by omega)
theorem inR_of {x : Int32} {n : Nat} (hn : n ≤ 2147483648) : (∃ c, c < n ∧ x = nI c ∧ inR x n = true) ∨ inR x n = false := by
  rcases arg_of x n hn with ⟨c, hc, rfl⟩ | h
  · exact Or.inl ⟨c, hc, rfl, by rw [inR_nI (by omega)]; exact decide_eq_true hc⟩
  · exact Or.inr (decide_eq_false h)
theorem inR_inL {x : Int32} {n : Nat} (hn : 0 < n) (hn2 : n ≤ 2147483647) : inL x.toInt 0 ((n : Int) - 1) = inR x n := by
  unfold inL inR
  by_cases h : 0 ≤ x.toInt ∧ x.toInt < (n : Int)
  · rw [decide_eq_true h]; exact decide_eq_true (by omega)
  · rw [decide_eq_false h]; exact decide_eq_false (by omega)
theorem inR_inL0 {x : Int32} {n : Nat} : inL x.toInt 0 ((n : Int) - 1) = inR x n := by
  unfold inL inR
  by_cases h : 0 ≤ x.toInt ∧ x.toInt < (n : Int)
  · rw [decide_eq_true h]; exact decide_eq_true (by omega)
  · rw [decide_eq_false h]; exact decide_eq_false (by omega)
theorem fre_iff {s : SGT} {c : Nat} : fre s c = true ↔ isC s c = true ∧ s 1 c = 0 := by
  unfold fre
  simp [Bool.and_eq_true]
theorem bf_of {b : Bool} (h : ¬ b = true) : b = false := by cases b <;> simp_all
/-- what of the reference is no part of the state -/
def offT (l f : List Nat) : Bool := repT.all (fun q => !l.contains q.2.1) && (scT.all (fun q => !f.contains q.1) && !l.contains 136)
theorem Sm.tr {l f : List Nat} {G G' : AH} {s : SGT} (h : Sm l f G G') (ho : offT l f = true) (hT : TR s G) : TR s G' := by
  unfold offT at ho
  rw [Bool.and_eq_true, Bool.and_eq_true, List.all_eq_true, List.all_eq_true] at ho
  obtain ⟨h1, h2, h3⟩ := ho
  refine TR.of hT (fun q hq i _ => h.2.1 _ _ ?_ ?_) (fun q hq => h.2.1 _ _ ?_ ?_)
  · have := h1 q hq; simpa using this
  · intro w
    have hn : ∀ q ∈ repT, ¬ q.2.1 = 136 := by decide
    exact hn q hq w.1
  · simpa using h3
  · intro w
    have := h2 q hq
    have h4 : q.1 ∉ f := by simpa using this
    exact h4 w.2
