/-! pure laws 1: distances, hops -/
def dif (a b : Nat) : Nat := if a ≤ b then b - a else a - b
def fr (c d : Nat) : Nat := dif (c % 8) (d % 8) * dif (c % 8) (d % 8) + dif (c / 8) (d / 8) * dif (c / 8) (d / 8)
theorem dif_comm (a b : Nat) : dif a b = dif b a := by unfold dif; split <;> split <;> omega
theorem fr_comm (c d : Nat) : fr c d = fr d c := by unfold fr; rw [dif_comm (c % 8), dif_comm (c / 8)]
theorem fr_le {c d : Nat} (hc : c < 64) (hd : d < 64) : fr c d ≤ 98 := by
  have : ∀ c d : Fin 64, fr c.val d.val ≤ 98 := by decide +kernel
  exact this ⟨c, hc⟩ ⟨d, hd⟩
theorem fr_self (c : Nat) : fr c c = 0 := by unfold fr dif; simp
/-- cells that at most n hops of reach r lead to from c, over F -/
def bal (F : Nat → Bool) (r c : Nat) : Nat → Nat → Bool
  | 0, d => d == c
  | n + 1, d => bal F r c n d || (List.range 64).any (fun e => bal F r c n e && F d && decide (fr e d ≤ r))
def lev (F : Nat → Bool) (r c n d : Nat) : Bool := bal F r c n d && (match n with | 0 => true | k + 1 => !bal F r c k d)
section
variable {F : Nat → Bool} {r c : Nat}
theorem bal_succ {n d : Nat} : bal F r c (n + 1) d = true ↔ bal F r c n d = true ∨ ∃ e, e < 64 ∧ bal F r c n e = true ∧ F d = true ∧ fr e d ≤ r := by
  rw [bal, Bool.or_eq_true, List.any_eq_true]
  constructor
  · rintro (h | ⟨e, he, h⟩)
    · exact Or.inl h
    · simp only [Bool.and_eq_true, decide_eq_true_eq] at h
      exact Or.inr ⟨e, List.mem_range.mp he, h.1.1, h.1.2, h.2⟩
  · rintro (h | ⟨e, he, h1, h2, h3⟩)
    · exact Or.inl h
    · exact Or.inr ⟨e, List.mem_range.mpr he, by simp [h1, h2, h3]⟩
theorem bal_mono {n k d : Nat} (h : n ≤ k) (hb : bal F r c n d = true) : bal F r c k d = true := by
  induction h with
  | refl => exact hb
  | step _ ih => exact bal_succ.mpr (Or.inl ih)
theorem lev_bal {n d : Nat} (h : lev F r c n d = true) : bal F r c n d = true := by
  unfold lev at h
  exact (Bool.and_eq_true _ _ ▸ h).1
theorem lev_not {n k d : Nat} (h : lev F r c n d = true) (hk : k < n) : bal F r c k d = false := by
  cases n with
  | zero => omega
  | succ n =>
    have h2 : bal F r c n d = false := by
      simp [lev] at h
      exact h.2
    cases hq : bal F r c k d with
    | false => rfl
    | true =>
      have := bal_mono (show k ≤ n by omega) hq
      rw [h2] at this
      cases this
theorem lev_uniq {n k d : Nat} (h1 : lev F r c n d = true) (h2 : lev F r c k d = true) : n = k := by
  rcases Nat.lt_trichotomy n k with q | q | q
  · have := lev_not h2 q
    rw [lev_bal h1] at this
    cases this
  · exact q
  · have := lev_not h1 q
    rw [lev_bal h2] at this
    cases this
theorem lev_of {n d : Nat} (h : bal F r c n d = true) : ∃ k, k ≤ n ∧ lev F r c k d = true := by
  induction n with
  | zero => exact ⟨0, Nat.le_refl _, by simp [lev, h]⟩
  | succ n ih =>
    cases hq : bal F r c n d with
    | true =>
      obtain ⟨k, hk, hl⟩ := ih hq
      exact ⟨k, by omega, hl⟩
    | false => exact ⟨n + 1, Nat.le_refl _, by simp [lev, h, hq]⟩
theorem lev_mk {n d : Nat} (h : bal F r c n d = true) (hn : ∀ k, k < n → bal F r c k d = false) : lev F r c n d = true := by
  cases n with
  | zero => simp [lev, h]
  | succ n => simp [lev, h, hn n (by omega)]
/-- the next ball out of the last edge -/
theorem bal_edge {n d : Nat} : bal F r c (n + 1) d = true ↔ bal F r c n d = true ∨ ∃ e, e < 64 ∧ lev F r c n e = true ∧ F d = true ∧ fr e d ≤ r := by
  rw [bal_succ]
  constructor
  · rintro (h | ⟨e, he, h1, h2, h3⟩)
    · exact Or.inl h
    · cases n with
      | zero => exact Or.inr ⟨e, he, by simp [lev, h1], h2, h3⟩
      | succ n =>
        cases hq : bal F r c n e with
        | true => exact Or.inl (bal_succ.mpr (Or.inr ⟨e, he, hq, h2, h3⟩))
        | false => exact Or.inr ⟨e, he, by simp [lev, h1, hq], h2, h3⟩
  · rintro (h | ⟨e, he, h1, h2, h3⟩)
    · exact Or.inl h
    · exact Or.inr ⟨e, he, lev_bal h1, h2, h3⟩
/-- an edge that is none: none comes behind it -/
theorem lev_stop {n : Nat} (h : ∀ d, d < 64 → lev F r c n d = false) : ∀ k d, n ≤ k → d < 64 → lev F r c k d = false ∧ (bal F r c k d = true → bal F r c n d = true) := by
  intro k
  induction k with
  | zero =>
    intro d hk hd
    have : n = 0 := by omega
    subst this
    exact ⟨h d hd, fun q => q⟩
  | succ k ih =>
    intro d hk hd
    rcases Nat.lt_or_ge k n with q | q
    · have : n = k + 1 := by omega
      subst this
      exact ⟨h d hd, fun q => q⟩
    · have hb : bal F r c (k + 1) d = true → bal F r c k d = true := by
        intro hq
        rcases bal_edge.mp hq with w | ⟨e, he, w, -⟩
        · exact w
        · rw [(ih e q he).1] at w
          cases w
      refine ⟨?_, fun hq => (ih d q hd).2 (hb hq)⟩
      cases hl : lev F r c (k + 1) d with
      | false => rfl
      | true =>
        have h1 := hb (lev_bal hl)
        rw [lev_not hl (Nat.lt_succ_self k)] at h1
        cases h1
/-- hops lead back -/
theorem bal_front {n d e : Nat} (hd : d < 64) (h : F d = true) (hr : fr c d ≤ r) (hb : bal F r d n e = true) : bal F r c (n + 1) e = true ∨ c ≥ 64 := by
  rcases Nat.lt_or_ge c 64 with hc | hc
  · left
    induction n generalizing e with
    | zero =>
      have : e = d := by simpa [bal] using hb
      subst this
      exact bal_succ.mpr (Or.inr ⟨c, hc, by simp [bal], h, hr⟩)
    | succ n ih =>
      rcases bal_succ.mp hb with q | ⟨x, hx, q1, q2, q3⟩
      · exact bal_succ.mpr (Or.inl (ih q))
      · exact bal_succ.mpr (Or.inr ⟨x, hx, ih q1, q2, q3⟩)
  · exact Or.inr hc
theorem bal_sym {n d : Nat} (hc : c < 64) (hF : F c = true) (hd : d < 64) (h : bal F r c n d = true) : bal F r d n c = true := by
  induction n generalizing d with
  | zero =>
    have : d = c := by simpa [bal] using h
    subst this
    simp [bal]
  | succ n ih =>
    rcases bal_succ.mp h with q | ⟨e, he, q1, q2, q3⟩
    · exact bal_succ.mpr (Or.inl (ih hd q))
    · have h1 := ih he q1
      cases hFe : F e with
      | true =>
        rcases bal_front (c := d) he hFe (by rw [fr_comm]; exact q3) h1 with w | w
        · exact w
        · omega
      | false =>
        have : e = c := by
          cases n with
          | zero => simpa [bal] using q1
          | succ n =>
            clear ih h h1 q3
            have : ∀ n, bal F r c n e = true → e = c := by
              intro n
              induction n with
              | zero => intro h; simpa [bal] using h
              | succ n ih =>
                intro h
                rcases bal_succ.mp h with w | ⟨x, -, -, w, -⟩
                · exact ih w
                · rw [hFe] at w; cases w
            exact this _ q1
        subst this
        rw [hF] at hFe
        cases hFe
theorem lev_sym {n d : Nat} (hc : c < 64) (hF : F c = true) (hd : d < 64) (hFd : F d = true) : lev F r c n d = lev F r d n c := by
  have hb : ∀ k, bal F r c k d = bal F r d k c := fun k => by
    cases h1 : bal F r c k d with
    | true => exact (bal_sym hc hF hd h1).symm
    | false =>
      cases h2 : bal F r d k c with
      | true => rw [bal_sym hd hFd hc h2] at h1; cases h1
      | false => rfl
  cases n with
  | zero => unfold lev; rw [hb]
  | succ n => simp only [lev, hb]
theorem bal_F {n d : Nat} (h : bal F r c n d = true) : d = c ∨ F d = true := by
  induction n with
  | zero => exact Or.inl (by simpa [bal] using h)
  | succ n ih =>
    rcases bal_succ.mp h with w | ⟨x, -, -, w, -⟩
    · exact ih w
    · exact Or.inr w
end
/-! pure laws 2: narrowing, what hangs together -/
/-- families of cells: of each thing some. Stable: each cell of the one is kept with some cell of the other -/
def Stb (n : Nat) (U : Nat → Bool) (a b : Nat → Nat) (K : Nat → Nat → Nat → Bool) (X : Nat → Nat → Bool) : Prop := ∀ m, m < n → U m = true → (∀ c, c < 64 → X (a m) c = true → ∃ d, d < 64 ∧ X (b m) d = true ∧ K m c d = true) ∧ (∀ d, d < 64 → X (b m) d = true → ∃ c, c < 64 ∧ X (a m) c = true ∧ K m c d = true)
def SubF (t : Nat) (X Y : Nat → Nat → Bool) : Prop := ∀ i, i < t → ∀ c, c < 64 → X i c = true → Y i c = true
/-- what stays: t things told T -/
def IsNar (t n : Nat) (U : Nat → Bool) (a b : Nat → Nat) (K : Nat → Nat → Nat → Bool) (T X : Nat → Nat → Bool) : Prop := SubF t X T ∧ Stb n U a b K X ∧ ∀ Y, SubF t Y T → Stb n U a b K Y → SubF t Y X
theorem IsNar.uniq {t n : Nat} {U : Nat → Bool} {a b : Nat → Nat} {K : Nat → Nat → Nat → Bool} {T X Y : Nat → Nat → Bool} (h : IsNar t n U a b K T X) (k : IsNar t n U a b K T Y) {i c : Nat} (hi : i < t) (hc : c < 64) : X i c = Y i c := by
  have h1 := k.2.2 X h.1 h.2.1 i hi c hc
  have h2 := h.2.2 Y k.1 k.2.1 i hi c hc
  cases hx : X i c <;> cases hy : Y i c
  · rfl
  · rw [h2 hy] at hx; cases hx
  · rw [h1 hx] at hy; cases hy
  · rfl
/-- one that is stable but for things that are none of t -/
theorem Stb.congr {t n : Nat} {U V : Nat → Bool} {a b : Nat → Nat} {K K' : Nat → Nat → Nat → Bool} {X Y : Nat → Nat → Bool} (hab : ∀ m, m < n → a m < t ∧ b m < t) (hU : ∀ m, m < n → U m = V m) (hK : ∀ m c d, m < n → c < 64 → d < 64 → X (a m) c = true → X (b m) d = true → K m c d = K' m c d) (hX : ∀ i, i < t → ∀ c, c < 64 → X i c = Y i c) (h : Stb n U a b K X) : Stb n V a b K' Y := by
  intro m hm hu
  obtain ⟨h1, h2⟩ := h m hm (by rw [hU m hm]; exact hu)
  obtain ⟨ha, hb⟩ := hab m hm
  refine ⟨fun c hc hx => ?_, fun d hd hx => ?_⟩
  · rw [← hX _ ha c hc] at hx
    obtain ⟨d, hd, w1, w2⟩ := h1 c hc hx
    exact ⟨d, hd, by rw [← hX _ hb d hd]; exact w1, by rw [← hK m c d hm hc hd hx w1]; exact w2⟩
  · rw [← hX _ hb d hd] at hx
    obtain ⟨c, hc, w1, w2⟩ := h2 d hd hx
    exact ⟨c, hc, by rw [← hX _ ha c hc]; exact w1, by rw [← hK m c d hm hc hd w1 hx]; exact w2⟩
theorem SubF.refl (t : Nat) (X : Nat → Nat → Bool) : SubF t X X := fun _ _ _ _ h => h
theorem SubF.trans {t : Nat} {X Y Z : Nat → Nat → Bool} (h : SubF t X Y) (k : SubF t Y Z) : SubF t X Z := fun i hi c hc q => k i hi c hc (h i hi c hc q)
/-- so many cells -/
def fam (X : Nat → Nat → Bool) : Nat → Nat
  | 0 => 0
  | t + 1 => fam X t + ct (X t) 64
theorem fam_mono {X Y : Nat → Nat → Bool} : ∀ {t : Nat}, SubF t X Y → fam X t ≤ fam Y t
  | 0, _ => Nat.le_refl _
  | t + 1, h => Nat.add_le_add (fam_mono fun i hi => h i (by omega)) (ct_mono fun c hc => h t (by omega) c hc)
theorem fam_lt {X Y : Nat → Nat → Bool} : ∀ {t : Nat}, SubF t X Y → (∃ i c, i < t ∧ c < 64 ∧ X i c = false ∧ Y i c = true) → fam X t < fam Y t
  | 0, _, ⟨i, _, hi, _⟩ => absurd hi (by omega)
  | t + 1, h, ⟨i, c, hi, hc, h1, h2⟩ => by
    unfold fam
    by_cases e : i = t
    · subst e
      exact Nat.add_lt_add_of_le_of_lt (fam_mono fun j hj => h j (by omega)) (ct_lt (fun c hc => h i (by omega) c hc) ⟨c, hc, h1, h2⟩)
    · exact Nat.add_lt_add_of_lt_of_le (fam_lt (fun j hj => h j (by omega)) ⟨i, c, by omega, hc, h1, h2⟩) (ct_mono fun c hc => h t (by omega) c hc)
/-! ints as sets of things -/
def w3 (p : Nat → Bool) : Int32 := Int32.ofBitVec (BitVec.iunfoldr (fun (i : Fin 32) (s : Unit) => (s, p i.val)) ()).2
theorem tb3_w3 {p : Nat → Bool} {c : Nat} (h : c < 32) : tb3 (w3 p) c = p c := by
  unfold tb3 w3
  rw [Int32.toBitVec_ofBitVec]
  exact BitVec.iunfoldr_getLsbD (f := fun (i : Fin 32) (s : Unit) => (s, p i.val)) (fun _ => ()) ⟨c, h⟩ (fun _ => rfl)
theorem w3_tb (x : Int32) : w3 (tb3 x) = x := tb3_ext fun _ h => tb3_w3 h
theorem w3_congr {p q : Nat → Bool} (h : ∀ c, c < 32 → p c = q c) : w3 p = w3 q := tb3_ext fun c hc => by rw [tb3_w3 hc, tb3_w3 hc, h c hc]
theorem w3_inj {p q : Nat → Bool} (h : w3 p = w3 q) {c : Nat} (hc : c < 32) : p c = q c := (tb3_w3 hc).symm.trans ((congrArg (fun x => tb3 x c) h).trans (tb3_w3 hc))
theorem tb3_and {x y : Int32} {c : Nat} : tb3 (x &&& y) c = (tb3 x c && tb3 y c) := by unfold tb3; rw [Int32.toBitVec_and, BitVec.getLsbD_and]
theorem tb3_or {x y : Int32} {c : Nat} : tb3 (x ||| y) c = (tb3 x c || tb3 y c) := by unfold tb3; rw [Int32.toBitVec_or, BitVec.getLsbD_or]
theorem tb3_xor {x y : Int32} {c : Nat} : tb3 (x ^^^ y) c = (tb3 x c ^^ tb3 y c) := by unfold tb3; rw [Int32.toBitVec_xor, BitVec.getLsbD_xor]
theorem tb3_m1 {c : Nat} (h : c < 32) : tb3 (-1) c = true := by
  have : ∀ j : Fin 32, tb3 (-1) j.val = true := by decide +kernel
  exact this ⟨c, h⟩
theorem w3_and {p q : Nat → Bool} : w3 p &&& w3 q = w3 (fun c => p c && q c) := tb3_ext fun c h => by rw [tb3_and, tb3_w3 h, tb3_w3 h, tb3_w3 h]
theorem w3_or {p q : Nat → Bool} : w3 p ||| w3 q = w3 (fun c => p c || q c) := tb3_ext fun c h => by rw [tb3_or, tb3_w3 h, tb3_w3 h, tb3_w3 h]
theorem w3_not {p : Nat → Bool} : w3 p ^^^ (-1) = w3 (fun c => !p c) := tb3_ext fun c h => by rw [tb3_xor, tb3_w3 h, tb3_w3 h, tb3_m1 h]; cases p c <;> rfl
theorem w3_all : (-1 : Int32) = w3 (fun _ => true) := tb3_ext fun c h => by rw [tb3_w3 h, tb3_m1 h]
theorem tb3_z {c : Nat} : tb3 0 c = false := by unfold tb3; simp
theorem w3_0 : w3 (fun _ => false) = 0 := tb3_ext fun c h => by rw [tb3_w3 h, tb3_z]
theorem w3_eq0 {p : Nat → Bool} : w3 p = 0 ↔ ∀ c, c < 32 → p c = false := by
  rw [← w3_0]
  exact ⟨fun h c hc => w3_inj h hc, fun h => w3_congr h⟩
theorem w3_bit {t : Nat} (h : t < 32) : nI 1 <<< (nI t &&& 31) = w3 (fun d => d == t) := by
  have : ∀ c : Fin 32, ∀ d : Fin 32, tb3 (nI 1 <<< (nI c.val &&& 31)) d.val = (d.val == c.val) := by decide +kernel
  exact tb3_ext fun d hd => by rw [tb3_w3 hd]; exact this ⟨t, h⟩ ⟨d, hd⟩
theorem smod32 {c : Nat} (h : c < 32) : ((nI c &&& 31).toBitVec.smod 32).toNat = c := by
  have : ∀ c : Fin 32, ((nI c.val &&& 31).toBitVec.smod 32).toNat = c.val := by decide +kernel
  exact this ⟨c, h⟩
theorem and1_3 (x : Int32) : x &&& nI 1 = if tb3 x 0 = true then nI 1 else nI 0 := tb3_ext fun d hd => by
  rw [tb3_and]
  have h1 : tb3 (nI 1) d = (d == 0) := by
    have : ∀ d : Fin 32, tb3 (nI 1) d.val = (d.val == 0) := by decide +kernel
    exact this ⟨d, hd⟩
  have h0 : tb3 (nI 0) d = false := tb3_z
  rw [h1]
  by_cases e : d = 0
  · subst e
    cases tb3 x 0 <;> rfl
  · have h2 : (d == 0) = false := by simpa using e
    rw [h2, Bool.and_false]
    cases tb3 x 0
    · exact h0.symm
    · exact (h1.trans h2).symm
theorem tb3_shr {x : Int32} {c : Nat} (h : c < 32) : tb3 (x >>> (nI c &&& 31)) 0 = tb3 x c := by
  unfold tb3
  rw [Int32.toBitVec_shiftRight, BitVec.sshiftRight', smod32 h, BitVec.getLsbD_sshiftRight]
  simp [h]
/-- (x >> t) & 1 -/
theorem shr1 {p : Nat → Bool} {t : Nat} (h : t < 32) : (w3 p >>> (nI t &&& 31)) &&& nI 1 = if p t = true then nI 1 else nI 0 := by rw [and1_3, tb3_shr h, tb3_w3 h]
/-- a set of things as a long -/
theorem w3_long {p : Nat → Bool} {t : Nat} (h : t < 32) : tb (w3 p).toInt64 t = p t := by
  rw [← tb3_w3 (p := p) h]
  unfold tb tb3
  rw [Int32.toBitVec_toInt64, BitVec.getLsbD_signExtend]
  have : t < 64 := by omega
  simp [h, this]
/-! what hangs together: passes over joints -/
def psm (J : Nat → Bool) (a b : Nat → Nat) (m : Nat) (S : Nat → Bool) : Nat → Bool := if J m = true ∧ (S (a m) = true ∨ S (b m) = true) then (fun t => S t || (t == a m || t == b m)) else S
def pss (J : Nat → Bool) (a b : Nat → Nat) : Nat → (Nat → Bool) → (Nat → Bool)
  | 0, S => S
  | n + 1, S => psm J a b n (pss J a b n S)
def psn (J : Nat → Bool) (a b : Nat → Nat) (n : Nat) : Nat → (Nat → Bool) → (Nat → Bool)
  | 0, S => S
  | k + 1, S => pss J a b n (psn J a b n k S)
theorem psm_le {J : Nat → Bool} {a b : Nat → Nat} {m t : Nat} {S : Nat → Bool} (h : S t = true) : psm J a b m S t = true := by
  unfold psm
  split
  · show (S t || _) = true; rw [h]; rfl
  · exact h
theorem pss_le {J : Nat → Bool} {a b : Nat → Nat} {t : Nat} {S : Nat → Bool} : ∀ n, S t = true → pss J a b n S t = true
  | 0, h => h
  | n + 1, h => psm_le (pss_le n h)
/-- a last one: what comes when nothing more comes -/
def IsClo (J : Nat → Bool) (a b : Nat → Nat) (n : Nat) (S0 S : Nat → Bool) : Prop := (∃ k, S = psn J a b n k S0) ∧ pss J a b n S = S
theorem psn_fix {J : Nat → Bool} {a b : Nat → Nat} {n : Nat} {S0 : Nat → Bool} {k : Nat} (h : pss J a b n (psn J a b n k S0) = psn J a b n k S0) : ∀ j, psn J a b n (k + j) S0 = psn J a b n k S0
  | 0 => rfl
  | j + 1 => by
    show pss J a b n (psn J a b n (k + j) S0) = _
    rw [psn_fix h j, h]
theorem IsClo.uniq {J : Nat → Bool} {a b : Nat → Nat} {n : Nat} {S0 S S' : Nat → Bool} (h : IsClo J a b n S0 S) (h' : IsClo J a b n S0 S') : S = S' := by
  obtain ⟨⟨k, rfl⟩, h2⟩ := h
  obtain ⟨⟨k', rfl⟩, h2'⟩ := h'
  rcases Nat.le_total k k' with q | q
  · obtain ⟨j, rfl⟩ : ∃ j, k' = k + j := ⟨k' - k, by omega⟩
    exact (psn_fix h2 j).symm
  · obtain ⟨j, rfl⟩ : ∃ j, k = k' + j := ⟨k - k', by omega⟩
    exact psn_fix h2' j
theorem psm_congr {J J' : Nat → Bool} {a b a' b' : Nat → Nat} {m : Nat} {S : Nat → Bool} (h1 : J m = J' m) (h2 : J m = true → a m = a' m ∧ b m = b' m) : psm J a b m S = psm J' a' b' m S := by
  unfold psm
  cases hj : J m with
  | false => rw [← h1, hj]; simp
  | true => obtain ⟨e1, e2⟩ := h2 hj; rw [← h1, hj, e1, e2]
