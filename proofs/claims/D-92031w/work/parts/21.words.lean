/-! words: sets of cells -/
def tb (x : Int64) (c : Nat) : Bool := x.toBitVec.getLsbD c
def wd (p : Nat → Bool) : Int64 := Int64.ofBitVec (BitVec.iunfoldr (fun (i : Fin 64) (s : Unit) => (s, p i.val)) ()).2
theorem tb_wd {p : Nat → Bool} {c : Nat} (h : c < 64) : tb (wd p) c = p c := by
  unfold tb wd
  rw [Int64.toBitVec_ofBitVec]
  exact BitVec.iunfoldr_getLsbD (f := fun (i : Fin 64) (s : Unit) => (s, p i.val)) (fun _ => ()) ⟨c, h⟩ (fun _ => rfl)
theorem tb_ge {x : Int64} {c : Nat} (h : 64 ≤ c) : tb x c = false := BitVec.getLsbD_of_ge _ _ h
theorem tb_ext {x y : Int64} (h : ∀ c, c < 64 → tb x c = tb y c) : x = y := by
  apply Int64.toBitVec_inj.mp
  exact BitVec.eq_of_getLsbD_eq fun i hi => h i hi
theorem wd_tb (x : Int64) : wd (tb x) = x := tb_ext fun _ h => tb_wd h
theorem wd_congr {p q : Nat → Bool} (h : ∀ c, c < 64 → p c = q c) : wd p = wd q := tb_ext fun c hc => by rw [tb_wd hc, tb_wd hc, h c hc]
theorem wd_inj {p q : Nat → Bool} (h : wd p = wd q) {c : Nat} (hc : c < 64) : p c = q c := (tb_wd hc).symm.trans ((congrArg (fun x => tb x c) h).trans (tb_wd hc))
theorem tb_and {x y : Int64} {c : Nat} : tb (x &&& y) c = (tb x c && tb y c) := by unfold tb; rw [Int64.toBitVec_and, BitVec.getLsbD_and]
theorem tb_or {x y : Int64} {c : Nat} : tb (x ||| y) c = (tb x c || tb y c) := by unfold tb; rw [Int64.toBitVec_or, BitVec.getLsbD_or]
theorem tb_xor {x y : Int64} {c : Nat} : tb (x ^^^ y) c = (tb x c ^^ tb y c) := by unfold tb; rw [Int64.toBitVec_xor, BitVec.getLsbD_xor]
theorem tb_0 {c : Nat} : tb 0 c = false := by unfold tb; simp
theorem tb_m1 {c : Nat} (h : c < 64) : tb (-1) c = true := by
  have : (-1 : Int64).toBitVec = BitVec.allOnes 64 := rfl
  unfold tb
  rw [this, BitVec.getLsbD_allOnes]
  simpa using h
theorem wd_and {p q : Nat → Bool} : wd p &&& wd q = wd (fun c => p c && q c) := tb_ext fun c h => by rw [tb_and, tb_wd h, tb_wd h, tb_wd h]
theorem wd_or {p q : Nat → Bool} : wd p ||| wd q = wd (fun c => p c || q c) := tb_ext fun c h => by rw [tb_or, tb_wd h, tb_wd h, tb_wd h]
theorem wd_xor {p q : Nat → Bool} : wd p ^^^ wd q = wd (fun c => p c ^^ q c) := tb_ext fun c h => by rw [tb_xor, tb_wd h, tb_wd h, tb_wd h]
theorem wd_not {p : Nat → Bool} : wd p ^^^ (-1) = wd (fun c => !p c) := tb_ext fun c h => by rw [tb_xor, tb_wd h, tb_wd h, tb_m1 h]; cases p c <;> rfl
theorem wd_0 : wd (fun _ => false) = 0 := tb_ext fun c h => by rw [tb_wd h, tb_0]
theorem wd_all : wd (fun _ => true) = -1 := tb_ext fun c h => by rw [tb_wd h, tb_m1 h]
theorem wd_eq0 {p : Nat → Bool} : wd p = 0 ↔ ∀ c, c < 64 → p c = false := by
  rw [← wd_0]
  exact ⟨fun h c hc => wd_inj h hc, fun h => wd_congr h⟩
/-- a shift by a cell -/
theorem sh_cell {c : Nat} (h : c < 64) : (nI c).toInt64 &&& 63 = lN c := by
  have : ∀ c : Fin 64, (nI c.val).toInt64 &&& 63 = lN c.val := by decide +kernel
  exact this ⟨c, h⟩
theorem wd_bit {c : Nat} (h : c < 64) : (1 : Int64) <<< (lN c) = wd (fun d => d == c) := by
  have : ∀ c : Fin 64, ∀ d : Fin 64, tb ((1 : Int64) <<< (lN c.val)) d.val = (d.val == c.val) := by decide +kernel
  exact tb_ext fun d hd => by rw [tb_wd hd]; exact this ⟨c, h⟩ ⟨d, hd⟩
theorem smod64 {c : Nat} (h : c < 64) : ((lN c).toBitVec.smod 64).toNat = c := by
  have : ∀ c : Fin 64, ((lN c.val).toBitVec.smod 64).toNat = c.val := by decide +kernel
  exact this ⟨c, h⟩
theorem and1 (x : Int64) : x &&& 1 = if tb x 0 = true then 1 else 0 := tb_ext fun d hd => by
  rw [tb_and]
  have h1 : tb 1 d = (d == 0) := by
    have : ∀ d : Fin 64, tb 1 d.val = (d.val == 0) := by decide +kernel
    exact this ⟨d, hd⟩
  rw [h1]
  by_cases e : d = 0
  · subst e
    cases tb x 0 <;> rfl
  · have h2 : (d == 0) = false := by simpa using e
    rw [h2, Bool.and_false]
    cases tb x 0
    · exact (tb_0).symm
    · exact (h1.trans h2).symm
theorem tb_shr {x : Int64} {c : Nat} (h : c < 64) : tb (x >>> lN c) 0 = tb x c := by
  unfold tb
  rw [Int64.toBitVec_shiftRight, BitVec.sshiftRight', smod64 h, BitVec.getLsbD_sshiftRight]
  simp [h]
theorem ush_cell {c : Nat} (h : c < 64) : (nI c).toInt64.toUInt64 &&& Int64.toUInt64 63 = (lN c).toUInt64 := by
  have : ∀ c : Fin 64, (nI c.val).toInt64.toUInt64 &&& Int64.toUInt64 63 = (lN c.val).toUInt64 := by decide +kernel
  exact this ⟨c, h⟩
theorem umod64 {c : Nat} (h : c < 64) : ((lN c).toUInt64.toBitVec % 64).toNat = c := by
  have : ∀ c : Fin 64, ((lN c.val).toUInt64.toBitVec % 64).toNat = c.val := by decide +kernel
  exact this ⟨c, h⟩
theorem tb_ushr {x : Int64} {c : Nat} (h : c < 64) : tb (x.toUInt64 >>> (lN c).toUInt64).toInt64 0 = tb x c := by
  unfold tb
  rw [UInt64.toBitVec_toInt64, UInt64.toBitVec_shiftRight, Int64.toBitVec_toUInt64, BitVec.ushiftRight_eq', umod64 h, BitVec.getLsbD_ushiftRight]
  simp
theorem on_iff {x : Int64} : (x &&& 1 = 1) = (tb x 0 = true) := by
  rw [and1]
  cases tb x 0 <;> decide
theorem tb_nat {x : Int64} {c : Nat} : tb x c = x.toBitVec.toNat.testBit c := by unfold tb; rw [BitVec.testBit_toNat]
/-- the lowest bit -/
theorem tb_pred {x : Int64} {c : Nat} (hc : c < 64) (h1 : tb x c = true) (h0 : ∀ j, j < c → tb x j = false) {j : Nat} (hj : j < 64) : tb (x - 1) j = if j < c then true else if j = c then false else tb x j := by
  have hn : x.toBitVec.toNat < 2 ^ 64 := x.toBitVec.isLt
  rw [tb_nat] at h1
  have h0' : ∀ j, j < c → x.toBitVec.toNat.testBit j = false := fun j h => by rw [← tb_nat]; exact h0 j h
  have hsub : (x - 1).toBitVec.toNat = x.toBitVec.toNat - 1 := by
    have hpos : 1 ≤ x.toBitVec.toNat := by
      rcases Nat.eq_zero_or_pos x.toBitVec.toNat with q | q
      · rw [q, Nat.zero_testBit] at h1; cases h1
      · exact q
    rw [Int64.toBitVec_sub]
    exact BitVec.toNat_sub_of_le (by rw [BitVec.le_def]; exact hpos)
  rw [tb_nat, tb_nat, hsub]
  generalize x.toBitVec.toNat = n at *
  have hm : n % 2 ^ (c + 1) = 2 ^ c := by
    apply Nat.eq_of_testBit_eq
    intro i
    rw [Nat.testBit_mod_two_pow, Nat.testBit_two_pow]
    by_cases e : i < c
    · rw [h0' i e]
      have : ¬ c = i := by omega
      simp [this]
    · by_cases e2 : i = c
      · subst e2
        rw [h1]
        simp
      · have : ¬ i < c + 1 := by omega
        have : ¬ c = i := by omega
        simp [*]
  have hp : 1 ≤ 2 ^ c := Nat.one_le_two_pow
  have hq : 2 ^ (c + 1) = 2 * 2 ^ c := by rw [Nat.pow_succ]; omega
  have hs : n - 1 = 2 ^ (c + 1) * (n / 2 ^ (c + 1)) + (2 ^ c - 1) := by
    have := Nat.div_add_mod n (2 ^ (c + 1))
    omega
  have hs2 : n = 2 ^ (c + 1) * (n / 2 ^ (c + 1)) + 2 ^ c := by
    have := Nat.div_add_mod n (2 ^ (c + 1))
    omega
  rw [hs, Nat.testBit_two_pow_mul_add _ (by omega), Nat.testBit_two_pow_sub_one]
  by_cases e : j < c
  · have : j < c + 1 := by omega
    simp [e, this]
  · by_cases e2 : j = c
    · subst e2
      simp
    · have h3 : ¬ j < c + 1 := by omega
      rw [if_neg h3, if_neg e, if_neg e2]
      conv => rhs; rw [hs2]
      rw [Nat.testBit_two_pow_mul_add _ (by omega), if_neg h3]
/-- what is left of a set from a cell on -/
def fromC (p : Nat → Bool) (k : Nat) : Nat → Bool := fun c => p c && decide (k ≤ c)
theorem wd_from0 {p : Nat → Bool} : wd (fromC p 0) = wd p := wd_congr fun c _ => by simp [fromC]
theorem wd_skip {p : Nat → Bool} {k : Nat} (h : p k = false) : wd (fromC p k) = wd (fromC p (k + 1)) := wd_congr fun c _ => by
  unfold fromC
  by_cases e : c = k
  · subst e; simp [h]
  · have : (k ≤ c) = (k + 1 ≤ c) := by apply propext; omega
    simp [this]
theorem wd_from64 {p : Nat → Bool} {k : Nat} (h : 64 ≤ k) : wd (fromC p k) = 0 := wd_eq0.mpr fun c hc => by
  have : ¬ k ≤ c := by omega
  simp [fromC, this]
theorem wd_fromne {p : Nat → Bool} {k : Nat} (hk : k < 64) (h : p k = true) : wd (fromC p k) ≠ 0 := fun q => by
  have := wd_eq0.mp q k hk
  simp [fromC, h] at this
theorem wd_low {p : Nat → Bool} {k : Nat} (hk : k < 64) (h : p k = true) : wd (fromC p k) &&& (wd (fromC p k) - 1) = wd (fromC p (k + 1)) := by
  have h1 : tb (wd (fromC p k)) k = true := by rw [tb_wd hk]; simp [fromC, h]
  have h0 : ∀ j, j < k → tb (wd (fromC p k)) j = false := fun j hj => by
    rw [tb_wd (by omega)]
    have : ¬ k ≤ j := by omega
    simp [fromC, this]
  refine tb_ext fun c hc => ?_
  rw [tb_and, tb_pred hk h1 h0 hc, tb_wd hc, tb_wd hc]
  unfold fromC
  by_cases e : c < k
  · have : ¬ k ≤ c := by omega
    have : ¬ k + 1 ≤ c := by omega
    simp [*]
  · by_cases e2 : c = k
    · subst e2; simp
    · have : k ≤ c := by omega
      have : k + 1 ≤ c := by omega
      simp [*]
/-- the lowest bit, told as such -/
def lowB (x : Int64) (c : Nat) : Prop := c < 64 ∧ tb x c = true ∧ ∀ j, j < c → tb x j = false
theorem low_from {p : Nat → Bool} {k : Nat} (hk : k < 64) (h : p k = true) : lowB (wd (fromC p k)) k := ⟨hk, by rw [tb_wd hk]; simp [fromC, h], fun j hj => by
    rw [tb_wd (by omega)]
    have : ¬ k ≤ j := by omega
    simp [fromC, this]⟩
/-- the int's part -/
def tb3 (x : Int32) (c : Nat) : Bool := x.toBitVec.getLsbD c
theorem tb3_ext {x y : Int32} (h : ∀ c, c < 32 → tb3 x c = tb3 y c) : x = y := by
  apply Int32.toBitVec_inj.mp
  exact BitVec.eq_of_getLsbD_eq fun i hi => h i hi
theorem tb3_nat {x : Int32} {c : Nat} : tb3 x c = x.toBitVec.toNat.testBit c := by unfold tb3; rw [BitVec.testBit_toNat]
theorem tb3_of {x : Int64} {c : Nat} (h : c < 32) : tb3 x.toInt32 c = tb x c := by
  unfold tb3 tb
  rw [Int64.toBitVec_toInt32, BitVec.getLsbD_signExtend]
  have : c < 64 := by omega
  simp [h, this]
theorem tb3_hi {x : Int64} {c : Nat} (h : c < 32) : tb3 (x.toUInt64 >>> ((nI 32).toInt64.toUInt64 &&& Int64.toUInt64 63)).toInt64.toInt32 c = tb x (32 + c) := by
  rw [tb3_of h]
  unfold tb
  rw [ush_cell (by decide), UInt64.toBitVec_toInt64, UInt64.toBitVec_shiftRight, Int64.toBitVec_toUInt64, BitVec.ushiftRight_eq', umod64 (by decide), BitVec.getLsbD_ushiftRight]
/-- ones below the lowest bit -/
theorem low3 {x : Int32} {c : Nat} (hc : c < 32) (h1 : tb3 x c = true) (h0 : ∀ j, j < c → tb3 x j = false) : (x ^^^ (-1)) &&& (x - 1) = nI (2 ^ c - 1) := by
  have hpred : ∀ j, j < 32 → tb3 (x - 1) j = if j < c then true else if j = c then false else tb3 x j := by
    intro j hj
    have hn : x.toBitVec.toNat < 2 ^ 32 := x.toBitVec.isLt
    rw [tb3_nat] at h1
    have h0' : ∀ j, j < c → x.toBitVec.toNat.testBit j = false := fun j h => by rw [← tb3_nat]; exact h0 j h
    have hsub : (x - 1).toBitVec.toNat = x.toBitVec.toNat - 1 := by
      have hpos : 1 ≤ x.toBitVec.toNat := by
        rcases Nat.eq_zero_or_pos x.toBitVec.toNat with q | q
        · rw [q, Nat.zero_testBit] at h1; cases h1
        · exact q
      rw [Int32.toBitVec_sub]
      exact BitVec.toNat_sub_of_le (by rw [BitVec.le_def]; exact hpos)
    rw [tb3_nat, tb3_nat, hsub]
    generalize x.toBitVec.toNat = n at *
    have hm : n % 2 ^ (c + 1) = 2 ^ c := by
      apply Nat.eq_of_testBit_eq
      intro i
      rw [Nat.testBit_mod_two_pow, Nat.testBit_two_pow]
      by_cases e : i < c
      · rw [h0' i e]
        have : ¬ c = i := by omega
        simp [this]
      · by_cases e2 : i = c
        · subst e2
          rw [h1]
          simp
        · have : ¬ i < c + 1 := by omega
          have : ¬ c = i := by omega
          simp [*]
    have hp : 1 ≤ 2 ^ c := Nat.one_le_two_pow
    have hq : 2 ^ (c + 1) = 2 * 2 ^ c := by rw [Nat.pow_succ]; omega
    have hs : n - 1 = 2 ^ (c + 1) * (n / 2 ^ (c + 1)) + (2 ^ c - 1) := by
      have := Nat.div_add_mod n (2 ^ (c + 1))
      omega
    have hs2 : n = 2 ^ (c + 1) * (n / 2 ^ (c + 1)) + 2 ^ c := by
      have := Nat.div_add_mod n (2 ^ (c + 1))
      omega
    rw [hs, Nat.testBit_two_pow_mul_add _ (by omega), Nat.testBit_two_pow_sub_one]
    by_cases e : j < c
    · have : j < c + 1 := by omega
      simp [e, this]
    · by_cases e2 : j = c
      · subst e2
        simp
      · have h3 : ¬ j < c + 1 := by omega
        rw [if_neg h3, if_neg e, if_neg e2]
        conv => rhs; rw [hs2]
        rw [Nat.testBit_two_pow_mul_add _ (by omega), if_neg h3]
  refine tb3_ext fun j hj => ?_
  have hr : tb3 (nI (2 ^ c - 1)) j = decide (j < c) := by
    have : ∀ c : Fin 32, ∀ j : Fin 32, tb3 (nI (2 ^ c.val - 1)) j.val = decide (j.val < c.val) := by decide +kernel
    exact this ⟨c, hc⟩ ⟨j, hj⟩
  have hm1 : tb3 (-1) j = true := by
    have : ∀ j : Fin 32, tb3 (-1) j.val = true := by decide +kernel
    exact this ⟨j, hj⟩
  have hx : tb3 ((x ^^^ (-1)) &&& (x - 1)) j = ((tb3 x j ^^ tb3 (-1) j) && tb3 (x - 1) j) := by
    unfold tb3
    rw [Int32.toBitVec_and, BitVec.getLsbD_and, Int32.toBitVec_xor, BitVec.getLsbD_xor]
  rw [hx, hpred j hj, hm1, hr]
  by_cases e : j < c
  · rw [h0 j e]; simp [e]
  · by_cases e2 : j = c
    · subst e2; simp
    · simp [e, e2]
/-- how many -/
def ct (p : Nat → Bool) : Nat → Nat
  | 0 => 0
  | n + 1 => ct p n + (if p n = true then 1 else 0)
theorem ct_le {p : Nat → Bool} : ∀ n, ct p n ≤ n
  | 0 => Nat.le_refl _
  | n + 1 => by have := ct_le (p := p) n; unfold ct; split <;> omega
theorem ct_congr {p q : Nat → Bool} : ∀ {n : Nat}, (∀ c, c < n → p c = q c) → ct p n = ct q n
  | 0, _ => rfl
  | n + 1, h => by unfold ct; rw [ct_congr (fun c hc => h c (by omega)), h n (by omega)]
theorem ct_mono {p q : Nat → Bool} : ∀ {n : Nat}, (∀ c, c < n → p c = true → q c = true) → ct p n ≤ ct q n
  | 0, _ => Nat.le_refl _
  | n + 1, h => by
    have := ct_mono (n := n) (fun c hc => h c (by omega))
    have h2 := h n (by omega)
    unfold ct
    split
    · next e => rw [if_pos (h2 e)]; omega
    · split <;> omega
theorem ct_lt {p q : Nat → Bool} : ∀ {n : Nat}, (∀ c, c < n → p c = true → q c = true) → (∃ c, c < n ∧ p c = false ∧ q c = true) → ct p n < ct q n
  | 0, _, ⟨c, hc, _⟩ => absurd hc (by omega)
  | n + 1, h, ⟨c, hc, h1, h2⟩ => by
    unfold ct
    by_cases e : c = n
    · subst e
      have := ct_mono (n := c) (p := p) (q := q) (fun j hj => h j (by omega))
      rw [h1, h2]
      simp
      omega
    · have := ct_lt (n := n) (p := p) (q := q) (fun j hj => h j (by omega)) ⟨c, by omega, h1, h2⟩
      have h3 := h n (by omega)
      split
      · next e => rw [if_pos (h3 e)]; omega
      · split <;> omega
theorem ct_0 {p : Nat → Bool} : ∀ {n : Nat}, ct p n = 0 ↔ ∀ c, c < n → p c = false
  | 0 => by simp [ct]
  | n + 1 => by
    unfold ct
    have := ct_0 (p := p) (n := n)
    constructor
    · intro h c hc
      by_cases e : c = n
      · subst e
        cases hp : p c
        · rfl
        · rw [hp] at h; simp at h
      · exact this.mp (by omega) c (by omega)
    · intro h
      rw [this.mpr (fun c hc => h c (by omega)), h n (by omega)]
      rfl
/-! counting bits by words -/
theorem and8 {l m h M : Nat} (hl : l < 256) (hm : m < 256) : (l + 256 * h) &&& (m + 256 * M) = (l &&& m) + 256 * (h &&& M) := by
  apply Nat.eq_of_testBit_eq
  intro i
  have e1 : l + 256 * h = 2 ^ 8 * h + l := by omega
  have e2 : m + 256 * M = 2 ^ 8 * M + m := by omega
  have hlt : (l &&& m) < 2 ^ 8 := Nat.and_lt_two_pow _ hm
  have e3 : (l &&& m) + 256 * (h &&& M) = 2 ^ 8 * (h &&& M) + (l &&& m) := by omega
  rw [e1, e2, e3, Nat.testBit_and, Nat.testBit_two_pow_mul_add _ hl, Nat.testBit_two_pow_mul_add _ hm, Nat.testBit_two_pow_mul_add _ hlt]
  split
  · rw [Nat.testBit_and]
  · rw [Nat.testBit_and]
def by8 (b0 b1 b2 b3 b4 b5 b6 b7 : Nat) : Nat := b0 + 256 * (b1 + 256 * (b2 + 256 * (b3 + 256 * (b4 + 256 * (b5 + 256 * (b6 + 256 * b7))))))
theorem and64 {b0 b1 b2 b3 b4 b5 b6 b7 v : Nat} (hv : v < 256) (h0 : b0 < 256) (h1 : b1 < 256) (h2 : b2 < 256) (h3 : b3 < 256) (h4 : b4 < 256) (h5 : b5 < 256) (h6 : b6 < 256) : by8 b0 b1 b2 b3 b4 b5 b6 b7 &&& by8 v v v v v v v v = by8 (b0 &&& v) (b1 &&& v) (b2 &&& v) (b3 &&& v) (b4 &&& v) (b5 &&& v) (b6 &&& v) (b7 &&& v) := by
  unfold by8
  rw [and8 h0 hv, and8 h1 hv, and8 h2 hv, and8 h3 hv, and8 h4 hv, and8 h5 hv, and8 h6 hv]
theorem by8_of {n : Nat} (h : n < 2 ^ 64) : n = by8 (n / 2 ^ (8 * 0) % 256) (n / 2 ^ (8 * 1) % 256) (n / 2 ^ (8 * 2) % 256) (n / 2 ^ (8 * 3) % 256) (n / 2 ^ (8 * 4) % 256) (n / 2 ^ (8 * 5) % 256) (n / 2 ^ (8 * 6) % 256) (n / 2 ^ (8 * 7) % 256) := by
  have e : ∀ k, n / 2 ^ (8 * (k + 1)) = n / 2 ^ (8 * k) / 256 := fun k => by rw [Nat.div_div_eq_div_mul, Nat.mul_add, Nat.pow_add]
  have h7 : n / 2 ^ (8 * 7) < 256 := by rw [Nat.div_lt_iff_lt_mul (by decide)]; exact h
  unfold by8
  have s : ∀ m, m % 256 + 256 * (m / 256) = m := fun m => Nat.mod_add_div m 256
  rw [Nat.mod_eq_of_lt h7, e 6, s, e 5, s, e 4, s, e 3, s, e 2, s, e 1, s, e 0, s]
  rw [Nat.mul_zero, Nat.pow_zero, Nat.div_one]
theorem sh_b {b h : Nat} {k m : Nat} (hm : k * m = 256) : (b + 256 * h) / k = b / k + m * (h % k) + 256 * (h / k) := by
  have hk : 0 < k := Nat.pos_of_ne_zero fun q => by rw [q] at hm; omega
  have h1 : b + 256 * h = b + k * (m * h) := by rw [← Nat.mul_assoc, hm]
  rw [h1, Nat.add_mul_div_left _ _ hk]
  have h2 : m * h = m * (h % k) + m * (k * (h / k)) := by rw [← Nat.mul_add, Nat.mod_add_div]
  rw [h2, ← Nat.mul_assoc, Nat.mul_comm m k, hm]
  omega
theorem sh8 {b0 b1 b2 b3 b4 b5 b6 b7 k m : Nat} (hm : k * m = 256) (hd : k ∣ 256) : by8 b0 b1 b2 b3 b4 b5 b6 b7 / k = by8 (b0 / k + m * (b1 % k)) (b1 / k + m * (b2 % k)) (b2 / k + m * (b3 % k)) (b3 / k + m * (b4 % k)) (b4 / k + m * (b5 % k)) (b5 / k + m * (b6 % k)) (b6 / k + m * (b7 % k)) (b7 / k + m * 0) := by
  have hmod : ∀ b h, (b + 256 * h) % k = b % k := fun b h => by
    obtain ⟨c, hc⟩ := hd
    rw [hc, Nat.mul_assoc, Nat.add_mul_mod_self_left]
  unfold by8
  rw [sh_b hm, sh_b hm, sh_b hm, sh_b hm, sh_b hm, sh_b hm, sh_b hm, hmod, hmod, hmod, hmod, hmod, hmod, Nat.mul_zero, Nat.add_zero]
theorem dvk {a b k : Nat} (h : a < k) : (a + k * b) / k = b := by
  rw [Nat.add_mul_div_left _ _ (by omega), Nat.div_eq_of_lt h, Nat.zero_add]
theorem fin8a {d0 d1 d2 e u E1 E2 E3 : Nat} (he : e = d0 + 256 * E1) (h1 : d1 + 256 * E2 = E1) (h2 : d2 + 256 * E3 = E2) (hu : u = e + E1) : u = (d0 + d1 + 256 * (d1 + d2)) + 65536 * (E2 + E3) := by omega
theorem fin8b {d0 d1 d2 : Nat} (c0 : d0 ≤ 8) (c1 : d1 ≤ 8) (c2 : d2 ≤ 8) : d0 + d1 + 256 * (d1 + d2) < 65536 := by omega
theorem fin8c {d0 d1 d2 d3 d4 d5 d6 d7 u v E2 E3 E4 E5 E6 : Nat} (hu : u = (d0 + d1 + 256 * (d1 + d2)) + 65536 * (E2 + E3)) (h2 : d2 + 256 * E3 = E2) (h3 : d3 + 256 * E4 = E3) (h4 : d4 + 256 * E5 = E4) (h5 : d5 + 256 * E6 = E5) (h6 : d6 + 256 * d7 = E6) (hv : v = u + (E2 + E3)) : v = (d0 + d1 + d2 + d3 + 256 * (d1 + d2 + d3 + d4) + 65536 * (d2 + d3 + d4 + d5) + 16777216 * (d3 + d4 + d5 + d6)) + 4294967296 * (E4 + E5 + E6 + d7) := by omega
theorem fin8d {d0 d1 d2 d3 d4 d5 d6 : Nat} (c0 : d0 ≤ 8) (c1 : d1 ≤ 8) (c2 : d2 ≤ 8) (c3 : d3 ≤ 8) (c4 : d4 ≤ 8) (c5 : d5 ≤ 8) (c6 : d6 ≤ 8) : d0 + d1 + d2 + d3 + 256 * (d1 + d2 + d3 + d4) + 65536 * (d2 + d3 + d4 + d5) + 16777216 * (d3 + d4 + d5 + d6) < 4294967296 := by omega
theorem fin8e {d0 d1 d2 d3 d4 d5 d6 d7 v E4 E5 E6 : Nat} (hv : v = (d0 + d1 + d2 + d3 + 256 * (d1 + d2 + d3 + d4) + 65536 * (d2 + d3 + d4 + d5) + 16777216 * (d3 + d4 + d5 + d6)) + 4294967296 * (E4 + E5 + E6 + d7)) (h4 : d4 + 256 * E5 = E4) (h5 : d5 + 256 * E6 = E5) (h6 : d6 + 256 * d7 = E6) : v + (E4 + E5 + E6 + d7) = (d0 + d1 + d2 + d3 + d4 + d5 + d6 + d7) + 128 * (2 * ((d1 + d2 + d3 + d4) + E5 + E6 + d7 + 256 * (d2 + d3 + d4 + d5) + 65536 * (d3 + d4 + d5 + d6) + 16777216 * (E4 + E5 + E6 + d7))) := by omega
theorem fin8 {d0 d1 d2 d3 d4 d5 d6 d7 e u v E1 E2 E3 E4 E5 E6 : Nat} (c0 : d0 ≤ 8) (c1 : d1 ≤ 8) (c2 : d2 ≤ 8) (c3 : d3 ≤ 8) (c4 : d4 ≤ 8) (c5 : d5 ≤ 8) (c6 : d6 ≤ 8) (c7 : d7 ≤ 8) (he : e = d0 + 256 * E1) (h1 : d1 + 256 * E2 = E1) (h2 : d2 + 256 * E3 = E2) (h3 : d3 + 256 * E4 = E3) (h4 : d4 + 256 * E5 = E4) (h5 : d5 + 256 * E6 = E5) (h6 : d6 + 256 * d7 = E6) (hu : u = e + e / 256) (hv : v = u + u / 65536) : (v + v / 4294967296) % 128 = d0 + d1 + d2 + d3 + d4 + d5 + d6 + d7 := by
  have k1 : e / 256 = E1 := by rw [he]; exact dvk (Nat.lt_of_le_of_lt c0 (by decide))
  rw [k1] at hu
  have k2 := fin8a he h1 h2 hu
  have k3 : u / 65536 = E2 + E3 := by rw [k2]; exact dvk (fin8b c0 c1 c2)
  rw [k3] at hv
  have k4 := fin8c k2 h2 h3 h4 h5 h6 hv
  have k5 : v / 4294967296 = E4 + E5 + E6 + d7 := by rw [k4]; exact dvk (fin8d c0 c1 c2 c3 c4 c5 c6)
  rw [k5, fin8e k4 h4 h5 h6, Nat.add_mul_mod_self_left]
  exact Nat.mod_eq_of_lt (by clear k5 k4 hv k3 k2 hu k1 h1 h2 h3 h4 h5 h6 he; omega)
theorem add8 {a0 a1 a2 a3 a4 a5 a6 a7 b0 b1 b2 b3 b4 b5 b6 b7 : Nat} : by8 a0 a1 a2 a3 a4 a5 a6 a7 + by8 b0 b1 b2 b3 b4 b5 b6 b7 = by8 (a0 + b0) (a1 + b1) (a2 + b2) (a3 + b3) (a4 + b4) (a5 + b5) (a6 + b6) (a7 + b7) := by
  unfold by8
  omega
theorem lt8 {b0 b1 b2 b3 b4 b5 b6 b7 : Nat} (h0 : b0 < 256) (h1 : b1 < 256) (h2 : b2 < 256) (h3 : b3 < 256) (h4 : b4 < 256) (h5 : b5 < 256) (h6 : b6 < 256) (h7 : b7 < 256) : by8 b0 b1 b2 b3 b4 b5 b6 b7 < 2 ^ 64 := by
  unfold by8
  omega
def pA (b : Nat) : Nat := b - ((b / 2) &&& 85)
def pG (a : Nat) : Nat := (a &&& 51) + ((a / 4) &&& 51)
theorem pc1 {b r : Nat} (hb : b < 256) (hr : r < 2) : ((b / 2 + 128 * r) &&& 85) = ((b / 2) &&& 85) ∧ ((b / 2) &&& 85) ≤ b := by
  have : ∀ b : Fin 256, ∀ r : Fin 2, ((b.val / 2 + 128 * r.val) &&& 85) = ((b.val / 2) &&& 85) ∧ ((b.val / 2) &&& 85) ≤ b.val := by decide +kernel
  exact this ⟨b, hb⟩ ⟨r, hr⟩
theorem pc2 {a r : Nat} (ha : a < 256) (hr : r < 4) : ((a / 4 + 64 * r) &&& 51) = ((a / 4) &&& 51) := by
  have : ∀ b : Fin 256, ∀ r : Fin 4, ((b.val / 4 + 64 * r.val) &&& 51) = ((b.val / 4) &&& 51) := by decide +kernel
  exact this ⟨a, ha⟩ ⟨r, hr⟩
theorem pc3 {b : Nat} (hb : b < 256) : pG (pA b) ≤ 68 ∧ pA b < 256 := by
  have : ∀ b : Fin 256, pG (pA b.val) ≤ 68 ∧ pA b.val < 256 := by decide +kernel
  exact this ⟨b, hb⟩
theorem pc4 {b r : Nat} (hb : b < 256) (hr : r < 5) : ((pG (pA b) + pG (pA b) / 16 + 16 * r) &&& 15) = ct b.testBit 8 := by
  have : ∀ b : Fin 256, ∀ r : Fin 5, ((pG (pA b.val) + pG (pA b.val) / 16 + 16 * r.val) &&& 15) = ct b.val.testBit 8 := by decide +kernel
  exact this ⟨b, hb⟩ ⟨r, hr⟩
theorem pc5 {b : Nat} (hb : b < 256) : pG (pA b) % 16 < 5 := by
  have : ∀ b : Fin 256, pG (pA b.val) % 16 < 5 := by decide +kernel
  exact this ⟨b, hb⟩
def nx (x : Int64) : Nat := x.toBitVec.toNat
theorem nx_lt (x : Int64) : nx x < 2 ^ 64 := x.toBitVec.isLt
theorem nx_sub {x y : Int64} (h : nx y ≤ nx x) : nx (x - y) = nx x - nx y := by
  unfold nx
  rw [Int64.toBitVec_sub]
  exact BitVec.toNat_sub_of_le (by rw [BitVec.le_def]; exact h)
theorem nx_add {x y : Int64} (h : nx x + nx y < 2 ^ 64) : nx (x + y) = nx x + nx y := by
  unfold nx
  rw [Int64.toBitVec_add, BitVec.toNat_add]
  exact Nat.mod_eq_of_lt h
theorem nx_and {x y : Int64} : nx (x &&& y) = nx x &&& nx y := by unfold nx; rw [Int64.toBitVec_and, BitVec.toNat_and]
theorem nx_ushr {x : Int64} {c : Nat} (h : c < 64) : nx (x.toUInt64 >>> ((nI c).toInt64.toUInt64 &&& Int64.toUInt64 63)).toInt64 = nx x / 2 ^ c := by
  unfold nx
  rw [ush_cell h, UInt64.toBitVec_toInt64, UInt64.toBitVec_shiftRight, Int64.toBitVec_toUInt64, BitVec.ushiftRight_eq', umod64 h, BitVec.toNat_ushiftRight, Nat.shiftRight_eq_div_pow]
def bcL (x : Int64) : Int32 :=
  let a := x - ((x.toUInt64 >>> ((nI 1).toInt64.toUInt64 &&& Int64.toUInt64 63)).toInt64 &&& 6148914691236517205)
  let g := (a &&& 3689348814741910323) + ((a.toUInt64 >>> ((nI 2).toInt64.toUInt64 &&& Int64.toUInt64 63)).toInt64 &&& 3689348814741910323)
  let e := (g + (g.toUInt64 >>> ((nI 4).toInt64.toUInt64 &&& Int64.toUInt64 63)).toInt64) &&& 1085102592571150095
  let u := e + (e.toUInt64 >>> ((nI 8).toInt64.toUInt64 &&& Int64.toUInt64 63)).toInt64
  let v := u + (u.toUInt64 >>> ((nI 16).toInt64.toUInt64 &&& Int64.toUInt64 63)).toInt64
  let w := v + (v.toUInt64 >>> ((nI 32).toInt64.toUInt64 &&& Int64.toUInt64 63)).toInt64
  w.toInt32 &&& nI 127
theorem ct_add {p : Nat → Bool} {n : Nat} : ∀ m, ct p (n + m) = ct p n + ct (fun j => p (n + j)) m
  | 0 => rfl
  | m + 1 => by
    show ct p (n + m) + (if p (n + m) = true then 1 else 0) = ct p n + (ct (fun j => p (n + j)) m + (if p (n + m) = true then 1 else 0))
    rw [ct_add m]
    omega
theorem nx_small {w : Int64} : w.toInt32 &&& nI 127 = nI (nx w % 128) := by
  apply Int32.toBitVec_inj.mp
  apply BitVec.eq_of_toNat_eq
  have h1 : (nI (nx w % 128)).toBitVec.toNat = nx w % 128 := by
    show (BitVec.ofNat 32 _).toNat = _
    rw [BitVec.toNat_ofNat]
    omega
  rw [h1, Int32.toBitVec_and, BitVec.toNat_and, Int64.toBitVec_toInt32, BitVec.signExtend_eq_setWidth_of_le _ (by decide), BitVec.toNat_setWidth]
  have h2 : (nI 127).toBitVec.toNat = 2 ^ 7 - 1 := rfl
  rw [h2, Nat.and_two_pow_sub_one_eq_mod]
  show nx w % 2 ^ 32 % 2 ^ 7 = _
  omega
set_option maxHeartbeats 4000000 in
theorem bcL_eq (x : Int64) : bcL x = nI (ct (tb x) 64) := by
  have hx := nx_lt x
  -- the bytes
  have hb : ∀ k, nx x / 2 ^ (8 * k) % 256 < 256 := fun k => Nat.mod_lt _ (by decide)
  have hct : ∀ k, ct (fun j => tb x (8 * k + j)) 8 = ct (nx x / 2 ^ (8 * k) % 256).testBit 8 := by
    intro k
    refine ct_congr fun j hj => ?_
    rw [show (256 : Nat) = 2 ^ 8 from rfl, Nat.testBit_mod_two_pow, Nat.testBit_div_two_pow, tb_nat]
    simp [hj, nx, Nat.add_comm]
  have hsum : ct (tb x) 64 = ct (nx x / 2 ^ (8 * 0) % 256).testBit 8 + ct (nx x / 2 ^ (8 * 1) % 256).testBit 8 + ct (nx x / 2 ^ (8 * 2) % 256).testBit 8 + ct (nx x / 2 ^ (8 * 3) % 256).testBit 8 + ct (nx x / 2 ^ (8 * 4) % 256).testBit 8 + ct (nx x / 2 ^ (8 * 5) % 256).testBit 8 + ct (nx x / 2 ^ (8 * 6) % 256).testBit 8 + ct (nx x / 2 ^ (8 * 7) % 256).testBit 8 := by
    rw [← hct, ← hct, ← hct, ← hct, ← hct, ← hct, ← hct, ← hct]
    rw [show (64 : Nat) = 8 * 7 + 8 from rfl, ct_add, show 8 * 7 = 8 * 6 + 8 from rfl, ct_add, show 8 * 6 = 8 * 5 + 8 from rfl, ct_add, show 8 * 5 = 8 * 4 + 8 from rfl, ct_add, show 8 * 4 = 8 * 3 + 8 from rfl, ct_add, show 8 * 3 = 8 * 2 + 8 from rfl, ct_add, show 8 * 2 = 8 * 1 + 8 from rfl, ct_add]
    simp
  have hX := by8_of hx
  rw [hsum]
  have g0 := hb 0
  have g1 := hb 1
  have g2 := hb 2
  have g3 := hb 3
  have g4 := hb 4
  have g5 := hb 5
  have g6 := hb 6
  have g7 := hb 7
  generalize nx x / 2 ^ (8 * 0) % 256 = b0 at *
  generalize nx x / 2 ^ (8 * 1) % 256 = b1 at *
  generalize nx x / 2 ^ (8 * 2) % 256 = b2 at *
  generalize nx x / 2 ^ (8 * 3) % 256 = b3 at *
  generalize nx x / 2 ^ (8 * 4) % 256 = b4 at *
  generalize nx x / 2 ^ (8 * 5) % 256 = b5 at *
  generalize nx x / 2 ^ (8 * 6) % 256 = b6 at *
  generalize nx x / 2 ^ (8 * 7) % 256 = b7 at *
  clear hct hb hsum
  unfold bcL
  dsimp only
  -- first
  have k5 : nx 6148914691236517205 = by8 85 85 85 85 85 85 85 85 := rfl
  have k3 : nx 3689348814741910323 = by8 51 51 51 51 51 51 51 51 := rfl
  have kf : nx 1085102592571150095 = by8 15 15 15 15 15 15 15 15 := rfl
  have s1 : nx x / 2 ^ 1 = by8 (b0 / 2 + 128 * (b1 % 2)) (b1 / 2 + 128 * (b2 % 2)) (b2 / 2 + 128 * (b3 % 2)) (b3 / 2 + 128 * (b4 % 2)) (b4 / 2 + 128 * (b5 % 2)) (b5 / 2 + 128 * (b6 % 2)) (b6 / 2 + 128 * (b7 % 2)) (b7 / 2 + 128 * 0) := by
    rw [hX]; exact sh8 rfl (by decide)
  have ha : nx (x - ((x.toUInt64 >>> ((nI 1).toInt64.toUInt64 &&& Int64.toUInt64 63)).toInt64 &&& 6148914691236517205)) = by8 (pA b0) (pA b1) (pA b2) (pA b3) (pA b4) (pA b5) (pA b6) (pA b7) := by
    have hm : nx ((x.toUInt64 >>> ((nI 1).toInt64.toUInt64 &&& Int64.toUInt64 63)).toInt64 &&& 6148914691236517205) = by8 ((b0 / 2) &&& 85) ((b1 / 2) &&& 85) ((b2 / 2) &&& 85) ((b3 / 2) &&& 85) ((b4 / 2) &&& 85) ((b5 / 2) &&& 85) ((b6 / 2) &&& 85) ((b7 / 2) &&& 85) := by
      rw [nx_and, nx_ushr (by decide), s1, k5, and64 (by decide) (by omega) (by omega) (by omega) (by omega) (by omega) (by omega) (by omega)]
      rw [(pc1 g0 (Nat.mod_lt _ (by decide))).1, (pc1 g1 (Nat.mod_lt _ (by decide))).1, (pc1 g2 (Nat.mod_lt _ (by decide))).1, (pc1 g3 (Nat.mod_lt _ (by decide))).1, (pc1 g4 (Nat.mod_lt _ (by decide))).1, (pc1 g5 (Nat.mod_lt _ (by decide))).1, (pc1 g6 (Nat.mod_lt _ (by decide))).1, (pc1 g7 (by decide)).1]
    have q0 := (pc1 (r := 0) g0 (by decide)).2
    have q1 := (pc1 (r := 0) g1 (by decide)).2
    have q2 := (pc1 (r := 0) g2 (by decide)).2
    have q3 := (pc1 (r := 0) g3 (by decide)).2
    have q4 := (pc1 (r := 0) g4 (by decide)).2
    have q5 := (pc1 (r := 0) g5 (by decide)).2
    have q6 := (pc1 (r := 0) g6 (by decide)).2
    have q7 := (pc1 (r := 0) g7 (by decide)).2
    have e0 : pA b0 + ((b0 / 2) &&& 85) = b0 := Nat.sub_add_cancel q0
    have e1 : pA b1 + ((b1 / 2) &&& 85) = b1 := Nat.sub_add_cancel q1
    have e2 : pA b2 + ((b2 / 2) &&& 85) = b2 := Nat.sub_add_cancel q2
    have e3 : pA b3 + ((b3 / 2) &&& 85) = b3 := Nat.sub_add_cancel q3
    have e4 : pA b4 + ((b4 / 2) &&& 85) = b4 := Nat.sub_add_cancel q4
    have e5 : pA b5 + ((b5 / 2) &&& 85) = b5 := Nat.sub_add_cancel q5
    have e6 : pA b6 + ((b6 / 2) &&& 85) = b6 := Nat.sub_add_cancel q6
    have e7 : pA b7 + ((b7 / 2) &&& 85) = b7 := Nat.sub_add_cancel q7
    have hsum : by8 (pA b0) (pA b1) (pA b2) (pA b3) (pA b4) (pA b5) (pA b6) (pA b7) + nx ((x.toUInt64 >>> ((nI 1).toInt64.toUInt64 &&& Int64.toUInt64 63)).toInt64 &&& 6148914691236517205) = nx x := by
      rw [hm, add8, e0, e1, e2, e3, e4, e5, e6, e7]
      exact hX.symm
    rw [nx_sub (by rw [← hsum]; exact Nat.le_add_left _ _), ← hsum, Nat.add_sub_cancel]
  clear hX s1
  generalize x - ((x.toUInt64 >>> ((nI 1).toInt64.toUInt64 &&& Int64.toUInt64 63)).toInt64 &&& 6148914691236517205) = a at *
  have p0 := (pc3 g0).2
  have p1 := (pc3 g1).2
  have p2 := (pc3 g2).2
  have p3 := (pc3 g3).2
  have p4 := (pc3 g4).2
  have p5 := (pc3 g5).2
  have p6 := (pc3 g6).2
  have p7 := (pc3 g7).2
  have r0 := (pc3 g0).1
  have r1 := (pc3 g1).1
  have r2 := (pc3 g2).1
  have r3 := (pc3 g3).1
  have r4 := (pc3 g4).1
  have r5 := (pc3 g5).1
  have r6 := (pc3 g6).1
  have r7 := (pc3 g7).1
  have s2 : nx a / 2 ^ 2 = by8 (pA b0 / 4 + 64 * (pA b1 % 4)) (pA b1 / 4 + 64 * (pA b2 % 4)) (pA b2 / 4 + 64 * (pA b3 % 4)) (pA b3 / 4 + 64 * (pA b4 % 4)) (pA b4 / 4 + 64 * (pA b5 % 4)) (pA b5 / 4 + 64 * (pA b6 % 4)) (pA b6 / 4 + 64 * (pA b7 % 4)) (pA b7 / 4 + 64 * 0) := by
    rw [ha]; exact sh8 rfl (by decide)
  have hg : nx ((a &&& 3689348814741910323) + ((a.toUInt64 >>> ((nI 2).toInt64.toUInt64 &&& Int64.toUInt64 63)).toInt64 &&& 3689348814741910323)) = by8 (pG (pA b0)) (pG (pA b1)) (pG (pA b2)) (pG (pA b3)) (pG (pA b4)) (pG (pA b5)) (pG (pA b6)) (pG (pA b7)) := by
    have h1 : nx (a &&& 3689348814741910323) = by8 (pA b0 &&& 51) (pA b1 &&& 51) (pA b2 &&& 51) (pA b3 &&& 51) (pA b4 &&& 51) (pA b5 &&& 51) (pA b6 &&& 51) (pA b7 &&& 51) := by
      rw [nx_and, ha, k3, and64 (by decide) p0 p1 p2 p3 p4 p5 p6]
    have h2 : nx ((a.toUInt64 >>> ((nI 2).toInt64.toUInt64 &&& Int64.toUInt64 63)).toInt64 &&& 3689348814741910323) = by8 ((pA b0 / 4) &&& 51) ((pA b1 / 4) &&& 51) ((pA b2 / 4) &&& 51) ((pA b3 / 4) &&& 51) ((pA b4 / 4) &&& 51) ((pA b5 / 4) &&& 51) ((pA b6 / 4) &&& 51) ((pA b7 / 4) &&& 51) := by
      rw [nx_and, nx_ushr (by decide), s2, k3, and64 (by decide) (by omega) (by omega) (by omega) (by omega) (by omega) (by omega) (by omega)]
      rw [pc2 p0 (Nat.mod_lt _ (by decide)), pc2 p1 (Nat.mod_lt _ (by decide)), pc2 p2 (Nat.mod_lt _ (by decide)), pc2 p3 (Nat.mod_lt _ (by decide)), pc2 p4 (Nat.mod_lt _ (by decide)), pc2 p5 (Nat.mod_lt _ (by decide)), pc2 p6 (Nat.mod_lt _ (by decide)), pc2 p7 (by decide)]
    have hs : nx (a &&& 3689348814741910323) + nx ((a.toUInt64 >>> ((nI 2).toInt64.toUInt64 &&& Int64.toUInt64 63)).toInt64 &&& 3689348814741910323) = by8 (pG (pA b0)) (pG (pA b1)) (pG (pA b2)) (pG (pA b3)) (pG (pA b4)) (pG (pA b5)) (pG (pA b6)) (pG (pA b7)) := by
      rw [h1, h2, add8]
      rfl
    rw [nx_add (by rw [hs]; exact lt8 (by omega) (by omega) (by omega) (by omega) (by omega) (by omega) (by omega) (by omega)), hs]
  clear s2 ha
  generalize (a &&& 3689348814741910323) + ((a.toUInt64 >>> ((nI 2).toInt64.toUInt64 &&& Int64.toUInt64 63)).toInt64 &&& 3689348814741910323) = g at *
  have s3 : nx g / 2 ^ 4 = by8 (pG (pA b0) / 16 + 16 * (pG (pA b1) % 16)) (pG (pA b1) / 16 + 16 * (pG (pA b2) % 16)) (pG (pA b2) / 16 + 16 * (pG (pA b3) % 16)) (pG (pA b3) / 16 + 16 * (pG (pA b4) % 16)) (pG (pA b4) / 16 + 16 * (pG (pA b5) % 16)) (pG (pA b5) / 16 + 16 * (pG (pA b6) % 16)) (pG (pA b6) / 16 + 16 * (pG (pA b7) % 16)) (pG (pA b7) / 16 + 16 * 0) := by
    rw [hg]; exact sh8 rfl (by decide)
  have m1 := pc5 g1
  have m2 := pc5 g2
  have m3 := pc5 g3
  have m4 := pc5 g4
  have m5 := pc5 g5
  have m6 := pc5 g6
  have m7 := pc5 g7
  have he : nx ((g + (g.toUInt64 >>> ((nI 4).toInt64.toUInt64 &&& Int64.toUInt64 63)).toInt64) &&& 1085102592571150095) = by8 (ct b0.testBit 8) (ct b1.testBit 8) (ct b2.testBit 8) (ct b3.testBit 8) (ct b4.testBit 8) (ct b5.testBit 8) (ct b6.testBit 8) (ct b7.testBit 8) := by
    have hs : nx g + nx (g.toUInt64 >>> ((nI 4).toInt64.toUInt64 &&& Int64.toUInt64 63)).toInt64 = by8 (pG (pA b0) + pG (pA b0) / 16 + 16 * (pG (pA b1) % 16)) (pG (pA b1) + pG (pA b1) / 16 + 16 * (pG (pA b2) % 16)) (pG (pA b2) + pG (pA b2) / 16 + 16 * (pG (pA b3) % 16)) (pG (pA b3) + pG (pA b3) / 16 + 16 * (pG (pA b4) % 16)) (pG (pA b4) + pG (pA b4) / 16 + 16 * (pG (pA b5) % 16)) (pG (pA b5) + pG (pA b5) / 16 + 16 * (pG (pA b6) % 16)) (pG (pA b6) + pG (pA b6) / 16 + 16 * (pG (pA b7) % 16)) (pG (pA b7) + pG (pA b7) / 16 + 16 * 0) := by
      rw [nx_ushr (by decide), s3, hg, add8, ← Nat.add_assoc, ← Nat.add_assoc, ← Nat.add_assoc, ← Nat.add_assoc, ← Nat.add_assoc, ← Nat.add_assoc, ← Nat.add_assoc, ← Nat.add_assoc]
    rw [nx_and, nx_add (by rw [hs]; exact lt8 (by omega) (by omega) (by omega) (by omega) (by omega) (by omega) (by omega) (by omega)), hs, kf, and64 (by decide) (by omega) (by omega) (by omega) (by omega) (by omega) (by omega) (by omega)]
    rw [pc4 g0 m1, pc4 g1 m2, pc4 g2 m3, pc4 g3 m4, pc4 g4 m5, pc4 g5 m6, pc4 g6 m7, pc4 g7 (by decide)]
  clear s3 hg
  generalize (g + (g.toUInt64 >>> ((nI 4).toInt64.toUInt64 &&& Int64.toUInt64 63)).toInt64) &&& 1085102592571150095 = e at *
  have c0 := ct_le (p := b0.testBit) 8
  have c1 := ct_le (p := b1.testBit) 8
  have c2 := ct_le (p := b2.testBit) 8
  have c3 := ct_le (p := b3.testBit) 8
  have c4 := ct_le (p := b4.testBit) 8
  have c5 := ct_le (p := b5.testBit) 8
  have c6 := ct_le (p := b6.testBit) 8
  have c7 := ct_le (p := b7.testBit) 8
  generalize ct b0.testBit 8 = d0 at *
  generalize ct b1.testBit 8 = d1 at *
  generalize ct b2.testBit 8 = d2 at *
  generalize ct b3.testBit 8 = d3 at *
  generalize ct b4.testBit 8 = d4 at *
  generalize ct b5.testBit 8 = d5 at *
  generalize ct b6.testBit 8 = d6 at *
  generalize ct b7.testBit 8 = d7 at *
  have hlt : nx e < 2 ^ 60 := by rw [he]; unfold by8; clear he; omega
  have hu : nx (e + (e.toUInt64 >>> ((nI 8).toInt64.toUInt64 &&& Int64.toUInt64 63)).toInt64) = nx e + nx e / 256 := by
    rw [nx_add (by rw [nx_ushr (by decide)]; clear he; omega), nx_ushr (by decide)]
  generalize e + (e.toUInt64 >>> ((nI 8).toInt64.toUInt64 &&& Int64.toUInt64 63)).toInt64 = u at *
  have hlu : nx u < 2 ^ 61 := by clear he; omega
  have hv : nx (u + (u.toUInt64 >>> ((nI 16).toInt64.toUInt64 &&& Int64.toUInt64 63)).toInt64) = nx u + nx u / 65536 := by
    rw [nx_add (by rw [nx_ushr (by decide)]; clear he hu; omega), nx_ushr (by decide)]
  generalize u + (u.toUInt64 >>> ((nI 16).toInt64.toUInt64 &&& Int64.toUInt64 63)).toInt64 = v at *
  have hlv : nx v < 2 ^ 62 := by clear he hu; omega
  have hw : nx (v + (v.toUInt64 >>> ((nI 32).toInt64.toUInt64 &&& Int64.toUInt64 63)).toInt64) = nx v + nx v / 4294967296 := by
    rw [nx_add (by rw [nx_ushr (by decide)]; clear he hu hv; omega), nx_ushr (by decide)]
  rw [nx_small, hw, fin8 c0 c1 c2 c3 c4 c5 c6 c7 he rfl rfl rfl rfl rfl rfl hu hv]
/-! the int's count -/
def by4 (b0 b1 b2 b3 : Nat) : Nat := b0 + 256 * (b1 + 256 * (b2 + 256 * b3))
theorem and32 {b0 b1 b2 b3 v : Nat} (hv : v < 256) (h0 : b0 < 256) (h1 : b1 < 256) (h2 : b2 < 256) : by4 b0 b1 b2 b3 &&& by4 v v v v = by4 (b0 &&& v) (b1 &&& v) (b2 &&& v) (b3 &&& v) := by
  unfold by4
  rw [and8 h0 hv, and8 h1 hv, and8 h2 hv]
theorem by4_of {n : Nat} (h : n < 2 ^ 32) : n = by4 (n / 2 ^ (8 * 0) % 256) (n / 2 ^ (8 * 1) % 256) (n / 2 ^ (8 * 2) % 256) (n / 2 ^ (8 * 3) % 256) := by
  have e : ∀ k, n / 2 ^ (8 * (k + 1)) = n / 2 ^ (8 * k) / 256 := fun k => by rw [Nat.div_div_eq_div_mul, Nat.mul_add, Nat.pow_add]
  have h3 : n / 2 ^ (8 * 3) < 256 := by rw [Nat.div_lt_iff_lt_mul (by decide)]; exact h
  unfold by4
  have s : ∀ m, m % 256 + 256 * (m / 256) = m := fun m => Nat.mod_add_div m 256
  rw [Nat.mod_eq_of_lt h3, e 2, s, e 1, s, e 0, s]
  rw [Nat.mul_zero, Nat.pow_zero, Nat.div_one]
theorem sh4 {b0 b1 b2 b3 k m : Nat} (hm : k * m = 256) (hd : k ∣ 256) : by4 b0 b1 b2 b3 / k = by4 (b0 / k + m * (b1 % k)) (b1 / k + m * (b2 % k)) (b2 / k + m * (b3 % k)) (b3 / k + m * 0) := by
  have hmod : ∀ b h, (b + 256 * h) % k = b % k := fun b h => by
    obtain ⟨c, hc⟩ := hd
    rw [hc, Nat.mul_assoc, Nat.add_mul_mod_self_left]
  unfold by4
  rw [sh_b hm, sh_b hm, sh_b hm, hmod, hmod, Nat.mul_zero, Nat.add_zero]
theorem add4 {a0 a1 a2 a3 b0 b1 b2 b3 : Nat} : by4 a0 a1 a2 a3 + by4 b0 b1 b2 b3 = by4 (a0 + b0) (a1 + b1) (a2 + b2) (a3 + b3) := by
  unfold by4
  omega
theorem lt4 {b0 b1 b2 b3 : Nat} (h0 : b0 < 256) (h1 : b1 < 256) (h2 : b2 < 256) (h3 : b3 < 256) : by4 b0 b1 b2 b3 < 2 ^ 32 := by
  unfold by4
  omega
def nx3 (x : Int32) : Nat := x.toBitVec.toNat
theorem nx3_lt (x : Int32) : nx3 x < 2 ^ 32 := x.toBitVec.isLt
theorem nx3_sub {x y : Int32} (h : nx3 y ≤ nx3 x) : nx3 (x - y) = nx3 x - nx3 y := by
  unfold nx3
  rw [Int32.toBitVec_sub]
  exact BitVec.toNat_sub_of_le (by rw [BitVec.le_def]; exact h)
theorem nx3_add {x y : Int32} (h : nx3 x + nx3 y < 2 ^ 32) : nx3 (x + y) = nx3 x + nx3 y := by
  unfold nx3
  rw [Int32.toBitVec_add, BitVec.toNat_add]
  exact Nat.mod_eq_of_lt h
theorem nx3_and {x y : Int32} : nx3 (x &&& y) = nx3 x &&& nx3 y := by unfold nx3; rw [Int32.toBitVec_and, BitVec.toNat_and]
theorem ush3 {c : Nat} (h : c < 32) : (((nI c).toUInt32 &&& Int32.toUInt32 31).toBitVec % 32).toNat = c := by
  have : ∀ c : Fin 32, (((nI c.val).toUInt32 &&& Int32.toUInt32 31).toBitVec % 32).toNat = c.val := by decide +kernel
  exact this ⟨c, h⟩
theorem nx3_ushr {x : Int32} {c : Nat} (h : c < 32) : nx3 (x.toUInt32 >>> ((nI c).toUInt32 &&& Int32.toUInt32 31)).toInt32 = nx3 x / 2 ^ c := by
  unfold nx3
  rw [UInt32.toBitVec_toInt32, UInt32.toBitVec_shiftRight, Int32.toBitVec_toUInt32, BitVec.ushiftRight_eq', ush3 h, BitVec.toNat_ushiftRight, Nat.shiftRight_eq_div_pow]
def bcI (x : Int32) : Int32 :=
  let a := x - ((x.toUInt32 >>> ((nI 1).toUInt32 &&& Int32.toUInt32 31)).toInt32 &&& 1431655765)
  let g := (a &&& 858993459) + ((a.toUInt32 >>> ((nI 2).toUInt32 &&& Int32.toUInt32 31)).toInt32 &&& 858993459)
  let e := (g + (g.toUInt32 >>> ((nI 4).toUInt32 &&& Int32.toUInt32 31)).toInt32) &&& 252645135
  let u := e + (e.toUInt32 >>> ((nI 8).toUInt32 &&& Int32.toUInt32 31)).toInt32
  let v := u + (u.toUInt32 >>> ((nI 16).toUInt32 &&& Int32.toUInt32 31)).toInt32
  v &&& nI 63
theorem nx3_small {w : Int32} : w &&& nI 63 = nI (nx3 w % 64) := by
  apply Int32.toBitVec_inj.mp
  apply BitVec.eq_of_toNat_eq
  have h1 : (nI (nx3 w % 64)).toBitVec.toNat = nx3 w % 64 := by
    show (BitVec.ofNat 32 _).toNat = _
    rw [BitVec.toNat_ofNat]
    omega
  rw [h1, Int32.toBitVec_and, BitVec.toNat_and]
  have h2 : (nI 63).toBitVec.toNat = 2 ^ 6 - 1 := rfl
  rw [h2, Nat.and_two_pow_sub_one_eq_mod]
  rfl
theorem fin4 {d0 d1 d2 d3 e u E1 E2 : Nat} (c0 : d0 ≤ 8) (c1 : d1 ≤ 8) (c2 : d2 ≤ 8) (c3 : d3 ≤ 8) (he : e = d0 + 256 * E1) (h1 : d1 + 256 * E2 = E1) (h2 : d2 + 256 * d3 = E2) (hu : u = e + e / 256) : (u + u / 65536) % 64 = d0 + d1 + d2 + d3 := by
  have k1 : e / 256 = E1 := by rw [he]; exact dvk (Nat.lt_of_le_of_lt c0 (by decide))
  rw [k1] at hu
  have k2 := fin8a (E3 := d3) he h1 h2 hu
  have k3 : u / 65536 = E2 + d3 := by rw [k2]; exact dvk (fin8b c0 c1 c2)
  have k4 : u + (E2 + d3) = (d0 + d1 + d2 + d3) + 64 * (4 * (d1 + d2 + d3 + 256 * (E2 + d3))) := by
    rw [k2]
    clear k3 k2 hu k1 he h1
    omega
  rw [k3, k4, Nat.add_mul_mod_self_left]
  exact Nat.mod_eq_of_lt (by clear k4 k3 k2 hu k1 h1 h2 he; omega)
set_option maxHeartbeats 4000000 in
theorem bcI_eq (x : Int32) : bcI x = nI (ct (tb3 x) 32) := by
  have hx := nx3_lt x
  have hb : ∀ k, nx3 x / 2 ^ (8 * k) % 256 < 256 := fun k => Nat.mod_lt _ (by decide)
  have hct : ∀ k, ct (fun j => tb3 x (8 * k + j)) 8 = ct (nx3 x / 2 ^ (8 * k) % 256).testBit 8 := by
    intro k
    refine ct_congr fun j hj => ?_
    rw [show (256 : Nat) = 2 ^ 8 from rfl, Nat.testBit_mod_two_pow, Nat.testBit_div_two_pow, tb3_nat]
    simp [hj, nx3, Nat.add_comm]
  have hsum : ct (tb3 x) 32 = ct (nx3 x / 2 ^ (8 * 0) % 256).testBit 8 + ct (nx3 x / 2 ^ (8 * 1) % 256).testBit 8 + ct (nx3 x / 2 ^ (8 * 2) % 256).testBit 8 + ct (nx3 x / 2 ^ (8 * 3) % 256).testBit 8 := by
    rw [← hct, ← hct, ← hct, ← hct]
    rw [show (32 : Nat) = 8 * 3 + 8 from rfl, ct_add, show 8 * 3 = 8 * 2 + 8 from rfl, ct_add, show 8 * 2 = 8 * 1 + 8 from rfl, ct_add]
    simp
  have hX := by4_of hx
  rw [hsum]
  have g0 := hb 0
  have g1 := hb 1
  have g2 := hb 2
  have g3 := hb 3
  generalize nx3 x / 2 ^ (8 * 0) % 256 = b0 at *
  generalize nx3 x / 2 ^ (8 * 1) % 256 = b1 at *
  generalize nx3 x / 2 ^ (8 * 2) % 256 = b2 at *
  generalize nx3 x / 2 ^ (8 * 3) % 256 = b3 at *
  clear hct hb hsum
  unfold bcI
  dsimp only
  have k5 : nx3 1431655765 = by4 85 85 85 85 := rfl
  have k3 : nx3 858993459 = by4 51 51 51 51 := rfl
  have kf : nx3 252645135 = by4 15 15 15 15 := rfl
  have s1 : nx3 x / 2 ^ 1 = by4 (b0 / 2 + 128 * (b1 % 2)) (b1 / 2 + 128 * (b2 % 2)) (b2 / 2 + 128 * (b3 % 2)) (b3 / 2 + 128 * 0) := by
    rw [hX]; exact sh4 rfl (by decide)
  have ha : nx3 (x - ((x.toUInt32 >>> ((nI 1).toUInt32 &&& Int32.toUInt32 31)).toInt32 &&& 1431655765)) = by4 (pA b0) (pA b1) (pA b2) (pA b3) := by
    have hm : nx3 ((x.toUInt32 >>> ((nI 1).toUInt32 &&& Int32.toUInt32 31)).toInt32 &&& 1431655765) = by4 ((b0 / 2) &&& 85) ((b1 / 2) &&& 85) ((b2 / 2) &&& 85) ((b3 / 2) &&& 85) := by
      rw [nx3_and, nx3_ushr (by decide), s1, k5, and32 (by decide) (by omega) (by omega) (by omega)]
      rw [(pc1 g0 (Nat.mod_lt _ (by decide))).1, (pc1 g1 (Nat.mod_lt _ (by decide))).1, (pc1 g2 (Nat.mod_lt _ (by decide))).1, (pc1 g3 (by decide)).1]
    have e0 : pA b0 + ((b0 / 2) &&& 85) = b0 := Nat.sub_add_cancel (pc1 (r := 0) g0 (by decide)).2
    have e1 : pA b1 + ((b1 / 2) &&& 85) = b1 := Nat.sub_add_cancel (pc1 (r := 0) g1 (by decide)).2
    have e2 : pA b2 + ((b2 / 2) &&& 85) = b2 := Nat.sub_add_cancel (pc1 (r := 0) g2 (by decide)).2
    have e3 : pA b3 + ((b3 / 2) &&& 85) = b3 := Nat.sub_add_cancel (pc1 (r := 0) g3 (by decide)).2
    have hsum : by4 (pA b0) (pA b1) (pA b2) (pA b3) + nx3 ((x.toUInt32 >>> ((nI 1).toUInt32 &&& Int32.toUInt32 31)).toInt32 &&& 1431655765) = nx3 x := by
      rw [hm, add4, e0, e1, e2, e3]
      exact hX.symm
    rw [nx3_sub (by rw [← hsum]; exact Nat.le_add_left _ _), ← hsum, Nat.add_sub_cancel]
  clear hX s1
  generalize x - ((x.toUInt32 >>> ((nI 1).toUInt32 &&& Int32.toUInt32 31)).toInt32 &&& 1431655765) = a at *
  have p0 := (pc3 g0).2
  have p1 := (pc3 g1).2
  have p2 := (pc3 g2).2
  have p3 := (pc3 g3).2
  have r0 := (pc3 g0).1
  have r1 := (pc3 g1).1
  have r2 := (pc3 g2).1
  have r3 := (pc3 g3).1
  have s2 : nx3 a / 2 ^ 2 = by4 (pA b0 / 4 + 64 * (pA b1 % 4)) (pA b1 / 4 + 64 * (pA b2 % 4)) (pA b2 / 4 + 64 * (pA b3 % 4)) (pA b3 / 4 + 64 * 0) := by
    rw [ha]; exact sh4 rfl (by decide)
  have hg : nx3 ((a &&& 858993459) + ((a.toUInt32 >>> ((nI 2).toUInt32 &&& Int32.toUInt32 31)).toInt32 &&& 858993459)) = by4 (pG (pA b0)) (pG (pA b1)) (pG (pA b2)) (pG (pA b3)) := by
    have h1 : nx3 (a &&& 858993459) = by4 (pA b0 &&& 51) (pA b1 &&& 51) (pA b2 &&& 51) (pA b3 &&& 51) := by
      rw [nx3_and, ha, k3, and32 (by decide) p0 p1 p2]
    have h2 : nx3 ((a.toUInt32 >>> ((nI 2).toUInt32 &&& Int32.toUInt32 31)).toInt32 &&& 858993459) = by4 ((pA b0 / 4) &&& 51) ((pA b1 / 4) &&& 51) ((pA b2 / 4) &&& 51) ((pA b3 / 4) &&& 51) := by
      rw [nx3_and, nx3_ushr (by decide), s2, k3, and32 (by decide) (by omega) (by omega) (by omega)]
      rw [pc2 p0 (Nat.mod_lt _ (by decide)), pc2 p1 (Nat.mod_lt _ (by decide)), pc2 p2 (Nat.mod_lt _ (by decide)), pc2 p3 (by decide)]
    have hs : nx3 (a &&& 858993459) + nx3 ((a.toUInt32 >>> ((nI 2).toUInt32 &&& Int32.toUInt32 31)).toInt32 &&& 858993459) = by4 (pG (pA b0)) (pG (pA b1)) (pG (pA b2)) (pG (pA b3)) := by
      rw [h1, h2, add4]
      rfl
    rw [nx3_add (by rw [hs]; exact lt4 (by omega) (by omega) (by omega) (by omega)), hs]
  clear s2 ha
  generalize (a &&& 858993459) + ((a.toUInt32 >>> ((nI 2).toUInt32 &&& Int32.toUInt32 31)).toInt32 &&& 858993459) = g at *
  have s3 : nx3 g / 2 ^ 4 = by4 (pG (pA b0) / 16 + 16 * (pG (pA b1) % 16)) (pG (pA b1) / 16 + 16 * (pG (pA b2) % 16)) (pG (pA b2) / 16 + 16 * (pG (pA b3) % 16)) (pG (pA b3) / 16 + 16 * 0) := by
    rw [hg]; exact sh4 rfl (by decide)
  have m1 := pc5 g1
  have m2 := pc5 g2
  have m3 := pc5 g3
  have he : nx3 ((g + (g.toUInt32 >>> ((nI 4).toUInt32 &&& Int32.toUInt32 31)).toInt32) &&& 252645135) = by4 (ct b0.testBit 8) (ct b1.testBit 8) (ct b2.testBit 8) (ct b3.testBit 8) := by
    have hs : nx3 g + nx3 (g.toUInt32 >>> ((nI 4).toUInt32 &&& Int32.toUInt32 31)).toInt32 = by4 (pG (pA b0) + pG (pA b0) / 16 + 16 * (pG (pA b1) % 16)) (pG (pA b1) + pG (pA b1) / 16 + 16 * (pG (pA b2) % 16)) (pG (pA b2) + pG (pA b2) / 16 + 16 * (pG (pA b3) % 16)) (pG (pA b3) + pG (pA b3) / 16 + 16 * 0) := by
      rw [nx3_ushr (by decide), s3, hg, add4, ← Nat.add_assoc, ← Nat.add_assoc, ← Nat.add_assoc, ← Nat.add_assoc]
    rw [nx3_and, nx3_add (by rw [hs]; exact lt4 (by omega) (by omega) (by omega) (by omega)), hs, kf, and32 (by decide) (by omega) (by omega) (by omega)]
    rw [pc4 g0 m1, pc4 g1 m2, pc4 g2 m3, pc4 g3 (by decide)]
  clear s3 hg
  generalize (g + (g.toUInt32 >>> ((nI 4).toUInt32 &&& Int32.toUInt32 31)).toInt32) &&& 252645135 = e at *
  have c0 := ct_le (p := b0.testBit) 8
  have c1 := ct_le (p := b1.testBit) 8
  have c2 := ct_le (p := b2.testBit) 8
  have c3 := ct_le (p := b3.testBit) 8
  generalize ct b0.testBit 8 = d0 at *
  generalize ct b1.testBit 8 = d1 at *
  generalize ct b2.testBit 8 = d2 at *
  generalize ct b3.testBit 8 = d3 at *
  have hlt : nx3 e < 2 ^ 28 := by rw [he]; unfold by4; clear he; omega
  have hu : nx3 (e + (e.toUInt32 >>> ((nI 8).toUInt32 &&& Int32.toUInt32 31)).toInt32) = nx3 e + nx3 e / 256 := by
    rw [nx3_add (by rw [nx3_ushr (by decide)]; clear he; omega), nx3_ushr (by decide)]
  generalize e + (e.toUInt32 >>> ((nI 8).toUInt32 &&& Int32.toUInt32 31)).toInt32 = u at *
  have hlu : nx3 u < 2 ^ 29 := by clear he; omega
  have hv : nx3 (u + (u.toUInt32 >>> ((nI 16).toUInt32 &&& Int32.toUInt32 31)).toInt32) = nx3 u + nx3 u / 65536 := by
    rw [nx3_add (by rw [nx3_ushr (by decide)]; clear he hu; omega), nx3_ushr (by decide)]
  rw [nx3_small, hv, fin4 c0 c1 c2 c3 he rfl rfl hu]
