/-! what all contracts use: numbers, loops -/
theorem nI_mul {a b : Nat} : nI a * nI b = nI (a * b) := by
  apply Int32.toBitVec_inj.mp
  rw [Int32.toBitVec_mul]
  show BitVec.ofNat 32 a * BitVec.ofNat 32 b = BitVec.ofNat 32 (a * b)
  exact (BitVec.ofNat_mul a b).symm
theorem nI_subk {a b : Nat} (h : b ≤ a) : nI a - nI b = nI (a - b) := by
  have : nI a = nI (a - b) + nI b := by rw [nI_add]; congr 1; omega
  rw [this, Int32.add_sub_cancel]
theorem nI_div {a b : Nat} (ha : a < 2147483648) (hb : b < 2147483648) : nI a / nI b = nI (a / b) := by
  apply Int32.toInt_inj.mp
  have hab : a / b < 2147483648 := Nat.lt_of_le_of_lt (Nat.div_le_self _ _) ha
  rw [Int32.toInt_div, nI_toInt ha, nI_toInt hb, nI_toInt hab]
  have e : (a : Int).tdiv (b : Int) = ((a / b : Nat) : Int) := by
    rw [Int.tdiv_eq_ediv_of_nonneg (by omega)]
    exact (Int.natCast_ediv a b).symm
  rw [e]
  clear e
  generalize a / b = q at *
  exact Int.bmod_eq_of_le (by omega) (by omega)
theorem nI_irm {a b : Nat} (ha : a < 2147483648) (hb : b < 2147483648) : irm (nI a) (nI b) = nI (a % b) := by
  unfold irm
  have h1 : a / b * b ≤ a := Nat.div_mul_le_self a b
  have h2 : a - a / b * b = a % b := by have := Nat.mod_add_div a b; rw [Nat.mul_comm] at this; omega
  rw [nI_div ha hb, nI_mul, nI_subk h1, h2]
theorem inb_ok {n m : Nat} (h : n < m) (h2 : m < 2147483648) : inb (nI n) m = true := by rw [inb_nI (by omega)]; exact decide_eq_true h
theorem ix_ok {n : Nat} (h : n < 2147483648) : ix (nI n) = n := ix_nI h
theorem nI_lt_t {a b : Nat} (h : a < b) (hb : b < 2147483648) : (nI a < nI b) = True := by rw [nI_ltb (by omega) hb]; exact eq_true h
theorem nI_lt_f {a b : Nat} (h : b ≤ a) (ha : a < 2147483648) : (nI a < nI b) = False := by rw [nI_ltb ha (by omega)]; exact eq_false (by omega)
theorem nI_le_t {a b : Nat} (h : a ≤ b) (hb : b < 2147483648) : (nI a ≤ nI b) = True := by rw [nI_leb (by omega) hb]; exact eq_true h
theorem nI_le_f {a b : Nat} (h : b < a) (ha : a < 2147483648) : (nI a ≤ nI b) = False := by rw [nI_leb ha (by omega)]; exact eq_false (by omega)
theorem nI_eq_t {a b : Nat} (h : a = b) : (nI a = nI b) = True := by rw [h]; exact eq_self _
theorem nI_eq_f {a b : Nat} (h : ¬ a = b) (ha : a < 2147483648) (hb : b < 2147483648) : (nI a = nI b) = False := by rw [nI_eqb ha hb]; exact eq_false h
/-- a loop that counts: to the end, or out of it -/
theorem lpQ {S R : Type} {P : Nat → S → R} {Q : R → Prop} (I : Nat → S → Prop) (n : Nat) (step : ∀ i s, i < n → I i s → (∀ s', I (i + 1) s' → Q (P (i + 1) s')) → Q (P i s)) (done : ∀ s, I n s → Q (P n s)) {i : Nat} {s : S} (hi : i ≤ n) (h : I i s) : Q (P i s) := by
  have hg : ∀ k i s, i + k = n → I i s → Q (P i s) := by
    intro k
    induction k with
    | zero =>
      intro i s hi h
      have : i = n := by omega
      subst this
      exact done s h
    | succ k ih => exact fun i s hi h => step i s (by omega) h fun s' h' => ih (i + 1) s' (by omega) h'
  exact hg (n - i) i s (by omega) h
/-- a loop with something that grows less -/
theorem whQ {S R : Type} {P : S → R} {Q : R → Prop} (I : S → Prop) (μ : S → Nat) (step : ∀ s, I s → (∀ s', I s' → μ s' < μ s → Q (P s')) → Q (P s)) {s : S} (h : I s) : Q (P s) := by
  have : ∀ n s, μ s < n → I s → Q (P s) := by
    intro n
    induction n with
    | zero => intro s hs; omega
    | succ n ih => intro s hs h; exact step s h fun s' h' hlt => ih s' (by omega) h'
  exact this _ s (Nat.lt_succ_self _) h
/-- over the cells of a set, least first -/
theorem btQ {S R : Type} {P : Int64 → S → R} {Q : R → Prop} (p : Nat → Bool) (I : Nat → S → Prop) (step : ∀ c s, c < 64 → p c = true → I c s → (∀ s', I (c + 1) s' → Q (P (wd (fromC p (c + 1))) s')) → Q (P (wd (fromC p c)) s)) (skip : ∀ c s, c < 64 → p c = false → I c s → I (c + 1) s) (done : ∀ s, I 64 s → Q (P 0 s)) {s : S} (h : I 0 s) : Q (P (wd p) s) := by
  have hg : ∀ k c s, c + k = 64 → I c s → Q (P (wd (fromC p c)) s) := by
    intro k
    induction k with
    | zero =>
      intro c s hc h
      have : c = 64 := by omega
      subst this
      rw [wd_from64 (Nat.le_refl _)]
      exact done s h
    | succ k ih =>
      intro c s hc h
      cases hp : p c with
      | false =>
        rw [wd_skip hp]
        exact ih (c + 1) s (by omega) (skip c s (by omega) hp h)
      | true => exact step c s (by omega) hp h fun s' h' => ih (c + 1) s' (by omega) h'
  rw [← wd_from0]
  exact hg 64 0 s rfl h
/-- the same, but for the cells l, and the fields f of the reference -/
def Sm (l f : List Nat) (G G' : AH) : Prop := (hN G' = hN G ∧ hC G' = hC G ∧ hS G' = hS G ∧ hT G' = hT G ∧ hL G' = hL G ∧ hR G' = hR G) ∧ (∀ a i, a ∉ l → ¬ (a = 136 ∧ i ∈ f) → hI G' a i = hI G a i) ∧ ∀ a i, a ∉ l → hJ G' a i = hJ G a i
theorem Sm.refl {l f : List Nat} (G : AH) : Sm l f G G := ⟨⟨rfl, rfl, rfl, rfl, rfl, rfl⟩, fun _ _ _ _ => rfl, fun _ _ _ => rfl⟩
theorem Sm.trans {l f : List Nat} {A B C : AH} (h : Sm l f A B) (k : Sm l f B C) : Sm l f A C := by
  obtain ⟨⟨a1, a2, a3, a4, a5, a6⟩, a7, a8⟩ := h
  obtain ⟨⟨b1, b2, b3, b4, b5, b6⟩, b7, b8⟩ := k
  exact ⟨⟨b1.trans a1, b2.trans a2, b3.trans a3, b4.trans a4, b5.trans a5, b6.trans a6⟩, fun a i h1 h2 => (b7 a i h1 h2).trans (a7 a i h1 h2), fun a i h1 => (b8 a i h1).trans (a8 a i h1)⟩
theorem Sm.mono {l f l' f' : List Nat} {A B : AH} (h : Sm l f A B) (h1 : ∀ a ∈ l, a ∈ l') (h2 : ∀ a ∈ f, a ∈ f') : Sm l' f' A B := ⟨h.1, fun a i q1 q2 => h.2.1 a i (fun w => q1 (h1 a w)) (fun w => q2 ⟨w.1, h2 i w.2⟩), fun a i q1 => h.2.2 a i (fun w => q1 (h1 a w))⟩
theorem Sm.sI {l f : List Nat} {G : AH} {a i : Nat} {v : Int32} (h : a ∈ l ∨ (a = 136 ∧ i ∈ f)) : Sm l f G (sI G a i v) := by
  refine ⟨⟨rfl, rfl, rfl, rfl, rfl, rfl⟩, fun b j h1 h2 => ?_, fun _ _ _ => rfl⟩
  rw [hI_sI, if_neg]
  rintro ⟨rfl, rfl⟩
  rcases h with h | h
  · exact h1 h
  · exact h2 h
theorem Sm.sJ {l f : List Nat} {G : AH} {a i : Nat} {v : Int64} (h : a ∈ l) : Sm l f G (sJ G a i v) := by
  refine ⟨⟨rfl, rfl, rfl, rfl, rfl, rfl⟩, fun _ _ _ _ => rfl, fun b j h1 => ?_⟩
  rw [hJ_sJ, if_neg]
  rintro ⟨rfl, rfl⟩
  exact h1 h
theorem Sm.ms {l f : List Nat} {G G' : AH} (h : Sm l f G G') (hM : MS G) : MS G' := MS.of hM (fun q => by rw [h.1.2.2.2.2.2]) (fun a _ _ => by rw [h.1.2.2.2.1, h.1.2.2.2.2.1]; exact ⟨rfl, rfl⟩)
/-- the heap at the law's start -/
def G0 (L : Nat) (xs : Nat → Int32) : AH := (3, 0, 0, (fun a => if a = 0 then 45 else if a = 1 then 55 else 60), (fun a => if a = 0 then L else 0), (fun a i => if a = 0 then xs i else 0), (fun _ _ => 0), (fun _ _ => none))
/-- what is owed of the abstract machine -/
def LawOK : Prop := ∀ (L : Nat) (xs : Nat → Int32), L ≤ 384 → ∃ G', cl 1000 0 [vr (some 0)] (G0 L xs) = some (.inl (some (vi 1)), G') ∧ hC G' ≤ 603072 ∧ hS G' ≤ 7262314
theorem nI_z {n : Nat} (h : 0 < n) (h2 : n < 2147483648) : (nI n = 0) = False := by
  have := nI_eq_f (a := n) (b := 0) (by omega) h2 (by decide)
  exact this
theorem b01_bI {b : Bool} : b01 (bI b) = true := by cases b <;> rfl
theorem b01_n {n : Nat} (h : n ≤ 1) : b01 (nI n) = true := by
  rcases (show n = 0 ∨ n = 1 by omega) with rfl | rfl <;> rfl
