/-! soundness 21: the heap only grows -/
def Gle (G G' : AH) : Prop := hN G ≤ hN G' ∧ hC G ≤ hC G' ∧ hS G ≤ hS G'
theorem Gle.rf (G : AH) : Gle G G := ⟨Nat.le_refl _, Nat.le_refl _, Nat.le_refl _⟩
theorem Gle.tr {A B C : AH} (h : Gle A B) (k : Gle B C) : Gle A C := ⟨Nat.le_trans h.1 k.1, Nat.le_trans h.2.1 k.2.1, Nat.le_trans h.2.2 k.2.2⟩
theorem Gle.mk (G : AH) (t n cc k : Nat) : Gle G (mkx G t n cc k) := ⟨Nat.le_add_right _ _, Nat.le_add_right _ _, Nat.le_add_right _ _⟩
theorem Gle.bm (G : AH) : Gle G (bmp G) := ⟨Nat.le_refl _, Nat.le_add_right _ _, Nat.le_add_right _ _⟩
theorem Gle.rows (o t k : Nat) : ∀ (n i : Nat) (G : AH), Gle G (mkRows o t k n i G)
  | 0, _, G => Gle.rf G
  | n + 1, i, G => Gle.tr (Gle.mk G t k 1 k) (Gle.rows o t k n (i + 1) (sR (mkx G t k 1 k) o i (some (hN G))))
theorem Gle.grid (G : AH) (t t2 n k : Nat) : Gle G (mkGrid G t t2 n k) := Gle.tr (Gle.mk G t n 1 n) (Gle.rows _ _ _ _ _ _)
def gOK (G : AH) : Option SR → Prop
  | some (.inl q) => Gle G q.2.2.2
  | some (.inr (.inl q)) => Gle G q.2
  | some (.inr (.inr (.inl q))) => Gle G q.2
  | _ => True
theorem gr_go {pc : Nat} {L : AL} {st : List AV} {G G' : AH} (h : Gle G G') : gOK G (sGo pc L st G') := h
theorem gr_X (y pc t : Nat) (G : AH) : gOK G (sX y pc t G) := by
  unfold sX
  split
  · exact Gle.mk _ _ _ _ _
  · trivial
theorem gr_copy (y pc : Nat) (L : AL) (A st : List AV) (G : AH) : gOK G (sCopy y pc L A st G) := by
  unfold sCopy
  repeat' split
  all_goals first | trivial | exact Gle.rf G | exact gr_X _ _ _ _
theorem gr_to (y z pc len : Nat) (L : AL) (A st : List AV) (G : AH) : gOK G (sTo y z pc len L A st G) := by
  unfold sTo
  repeat' split
  all_goals first | trivial | exact Gle.rf G | exact Gle.bm G | exact gr_copy _ _ _ _ _ _
theorem gr_inv (y n : Nat) (ts : List (Nat × Nat)) (kd pc len : Nat) (L : AL) (st : List AV) (G : AH) : gOK G (sInv y n ts kd pc len L st G) := by
  unfold sInv
  repeat' split
  all_goals first | trivial | exact gr_to _ _ _ _ _ _ _ _ | exact gr_X _ _ _ _
theorem gr_call (y k kd pc len : Nat) (L : AL) (st : List AV) (G : AH) : gOK G (sCallAt y k kd pc len L st G) := by
  unfold sCallAt
  split
  · exact gr_inv _ _ _ _ _ _ _ _ _
  · trivial
theorem gr_sLdI (k pc : Nat) (L : AL) (st : List AV) (G : AH) : gOK G (sLdI k pc L st G) := by
  unfold sLdI
  repeat' split
  all_goals first | trivial | exact Gle.rf G | exact gr_X _ _ _ _ | exact Gle.mk _ _ _ _ _ | exact Gle.grid _ _ _ _ _
theorem gr_sLdL (k pc : Nat) (L : AL) (st : List AV) (G : AH) : gOK G (sLdL k pc L st G) := by
  unfold sLdL
  repeat' split
  all_goals first | trivial | exact Gle.rf G | exact gr_X _ _ _ _ | exact Gle.mk _ _ _ _ _ | exact Gle.grid _ _ _ _ _
theorem gr_sLdR (k pc : Nat) (L : AL) (st : List AV) (G : AH) : gOK G (sLdR k pc L st G) := by
  unfold sLdR
  repeat' split
  all_goals first | trivial | exact Gle.rf G | exact gr_X _ _ _ _ | exact Gle.mk _ _ _ _ _ | exact Gle.grid _ _ _ _ _
theorem gr_sStI (k pc : Nat) (L : AL) (st : List AV) (G : AH) : gOK G (sStI k pc L st G) := by
  unfold sStI
  repeat' split
  all_goals first | trivial | exact Gle.rf G | exact gr_X _ _ _ _ | exact Gle.mk _ _ _ _ _ | exact Gle.grid _ _ _ _ _
theorem gr_sStR (k pc : Nat) (L : AL) (st : List AV) (G : AH) : gOK G (sStR k pc L st G) := by
  unfold sStR
  repeat' split
  all_goals first | trivial | exact Gle.rf G | exact gr_X _ _ _ _ | exact Gle.mk _ _ _ _ _ | exact Gle.grid _ _ _ _ _
theorem gr_sStL (k pc : Nat) (L : AL) (st : List AV) (G : AH) : gOK G (sStL k pc L st G) := by
  unfold sStL
  repeat' split
  all_goals first | trivial | exact Gle.rf G | exact gr_X _ _ _ _ | exact Gle.mk _ _ _ _ _ | exact Gle.grid _ _ _ _ _
theorem gr_sBin (f : Int32 → Int32 → Int32) (pc : Nat) (L : AL) (st : List AV) (G : AH) : gOK G (sBin f pc L st G) := by
  unfold sBin
  repeat' split
  all_goals first | trivial | exact Gle.rf G | exact gr_X _ _ _ _ | exact Gle.mk _ _ _ _ _ | exact Gle.grid _ _ _ _ _
theorem gr_sBinL (f : Int64 → Int64 → Int64) (pc : Nat) (L : AL) (st : List AV) (G : AH) : gOK G (sBinL f pc L st G) := by
  unfold sBinL
  repeat' split
  all_goals first | trivial | exact Gle.rf G | exact gr_X _ _ _ _ | exact Gle.mk _ _ _ _ _ | exact Gle.grid _ _ _ _ _
theorem gr_sShL (f : Int64 → Int32 → Int64) (pc : Nat) (L : AL) (st : List AV) (G : AH) : gOK G (sShL f pc L st G) := by
  unfold sShL
  repeat' split
  all_goals first | trivial | exact Gle.rf G | exact gr_X _ _ _ _ | exact Gle.mk _ _ _ _ _ | exact Gle.grid _ _ _ _ _
theorem gr_sUn (f : Int32 → Int32) (pc : Nat) (L : AL) (st : List AV) (G : AH) : gOK G (sUn f pc L st G) := by
  unfold sUn
  repeat' split
  all_goals first | trivial | exact Gle.rf G | exact gr_X _ _ _ _ | exact Gle.mk _ _ _ _ _ | exact Gle.grid _ _ _ _ _
theorem gr_sIf (c : Jvm.ClassFile.Cond) (off : Int) (pc : Nat) (L : AL) (st : List AV) (G : AH) : gOK G (sIf c off pc L st G) := by
  unfold sIf
  repeat' split
  all_goals first | trivial | exact Gle.rf G | exact gr_X _ _ _ _ | exact Gle.mk _ _ _ _ _ | exact Gle.grid _ _ _ _ _
theorem gr_sIcmp (c : Jvm.ClassFile.Cond) (off : Int) (pc : Nat) (L : AL) (st : List AV) (G : AH) : gOK G (sIcmp c off pc L st G) := by
  unfold sIcmp
  repeat' split
  all_goals first | trivial | exact Gle.rf G | exact gr_X _ _ _ _ | exact Gle.mk _ _ _ _ _ | exact Gle.grid _ _ _ _ _
theorem gr_sAcmp (b : Bool) (off : Int) (pc : Nat) (L : AL) (st : List AV) (G : AH) : gOK G (sAcmp b off pc L st G) := by
  unfold sAcmp
  repeat' split
  all_goals first | trivial | exact Gle.rf G | exact gr_X _ _ _ _ | exact Gle.mk _ _ _ _ _ | exact Gle.grid _ _ _ _ _
theorem gr_sNull (b : Bool) (off : Int) (pc : Nat) (L : AL) (st : List AV) (G : AH) : gOK G (sNull b off pc L st G) := by
  unfold sNull
  repeat' split
  all_goals first | trivial | exact Gle.rf G | exact gr_X _ _ _ _ | exact Gle.mk _ _ _ _ _ | exact Gle.grid _ _ _ _ _
theorem gr_sGet (y f pc : Nat) (L : AL) (st : List AV) (G : AH) : gOK G (sGet y f pc L st G) := by
  unfold sGet
  repeat' split
  all_goals first | trivial | exact Gle.rf G | exact gr_X _ _ _ _ | exact Gle.mk _ _ _ _ _ | exact Gle.grid _ _ _ _ _
theorem gr_sPut (f pc : Nat) (L : AL) (st : List AV) (G : AH) : gOK G (sPut f pc L st G) := by
  unfold sPut
  repeat' split
  all_goals first | trivial | exact Gle.rf G | exact gr_X _ _ _ _ | exact Gle.mk _ _ _ _ _ | exact Gle.grid _ _ _ _ _
theorem gr_sAI (ts : List Nat) (y pc : Nat) (L : AL) (st : List AV) (G : AH) : gOK G (sAI ts y pc L st G) := by
  unfold sAI
  repeat' split
  all_goals first | trivial | exact Gle.rf G | exact gr_X _ _ _ _ | exact Gle.mk _ _ _ _ _ | exact Gle.grid _ _ _ _ _
theorem gr_sAJ (y pc : Nat) (L : AL) (st : List AV) (G : AH) : gOK G (sAJ y pc L st G) := by
  unfold sAJ
  repeat' split
  all_goals first | trivial | exact Gle.rf G | exact gr_X _ _ _ _ | exact Gle.mk _ _ _ _ _ | exact Gle.grid _ _ _ _ _
theorem gr_sAR (pc : Nat) (L : AL) (st : List AV) (G : AH) : gOK G (sAR pc L st G) := by
  unfold sAR
  repeat' split
  all_goals first | trivial | exact Gle.rf G | exact gr_X _ _ _ _ | exact Gle.mk _ _ _ _ _ | exact Gle.grid _ _ _ _ _
theorem gr_sSI (t : Nat) (f : Int32 → Int32) (ok : Int32 → Bool) (y pc : Nat) (L : AL) (st : List AV) (G : AH) : gOK G (sSI t f ok y pc L st G) := by
  unfold sSI
  repeat' split
  all_goals first | trivial | exact Gle.rf G | exact gr_X _ _ _ _ | exact Gle.mk _ _ _ _ _ | exact Gle.grid _ _ _ _ _
theorem gr_sSB (y pc : Nat) (L : AL) (st : List AV) (G : AH) : gOK G (sSB y pc L st G) := by
  unfold sSB
  repeat' split
  all_goals first | trivial | exact Gle.rf G | exact gr_X _ _ _ _ | exact Gle.mk _ _ _ _ _ | exact Gle.grid _ _ _ _ _ | exact gr_sSI _ _ _ _ _ _ _ _
theorem gr_sSJ (y pc : Nat) (L : AL) (st : List AV) (G : AH) : gOK G (sSJ y pc L st G) := by
  unfold sSJ
  repeat' split
  all_goals first | trivial | exact Gle.rf G | exact gr_X _ _ _ _ | exact Gle.mk _ _ _ _ _ | exact Gle.grid _ _ _ _ _
theorem gr_sSR (pc : Nat) (L : AL) (st : List AV) (G : AH) : gOK G (sSR pc L st G) := by
  unfold sSR
  repeat' split
  all_goals first | trivial | exact Gle.rf G | exact gr_X _ _ _ _ | exact Gle.mk _ _ _ _ _ | exact Gle.grid _ _ _ _ _
theorem gr_sLen (y pc : Nat) (L : AL) (st : List AV) (G : AH) : gOK G (sLen y pc L st G) := by
  unfold sLen
  repeat' split
  all_goals first | trivial | exact Gle.rf G | exact gr_X _ _ _ _ | exact Gle.mk _ _ _ _ _ | exact Gle.grid _ _ _ _ _
theorem gr_sNewA (t : ArrayType) (y pc : Nat) (L : AL) (st : List AV) (G : AH) : gOK G (sNewA t y pc L st G) := by
  unfold sNewA
  repeat' split
  all_goals first | trivial | exact Gle.rf G | exact gr_X _ _ _ _ | exact Gle.mk _ _ _ _ _ | exact Gle.grid _ _ _ _ _
theorem gr_sNewR (t pc : Nat) (L : AL) (st : List AV) (G : AH) : gOK G (sNewR t pc L st G) := by
  unfold sNewR
  repeat' split
  all_goals first | trivial | exact Gle.rf G | exact gr_X _ _ _ _ | exact Gle.mk _ _ _ _ _ | exact Gle.grid _ _ _ _ _
theorem gr_sGrid (t t2 pc : Nat) (L : AL) (st : List AV) (G : AH) : gOK G (sGrid t t2 pc L st G) := by
  unfold sGrid
  repeat' split
  all_goals first | trivial | exact Gle.rf G | exact gr_X _ _ _ _ | exact Gle.mk _ _ _ _ _ | exact Gle.grid _ _ _ _ _
theorem gr_sCast (y : Nat) (ts ns : List Nat) (pc : Nat) (L : AL) (st : List AV) (G : AH) : gOK G (sCast y ts ns pc L st G) := by
  unfold sCast
  repeat' split
  all_goals first | trivial | exact Gle.rf G | exact gr_X _ _ _ _ | exact Gle.mk _ _ _ _ _ | exact Gle.grid _ _ _ _ _
theorem gr_sInst (ts ns : List Nat) (pc : Nat) (L : AL) (st : List AV) (G : AH) : gOK G (sInst ts ns pc L st G) := by
  unfold sInst
  repeat' split
  all_goals first | trivial | exact Gle.rf G | exact gr_X _ _ _ _ | exact Gle.mk _ _ _ _ _ | exact Gle.grid _ _ _ _ _
theorem gr_sTab (d lo hi : Int) (offs : Array Int) (pc : Nat) (L : AL) (st : List AV) (G : AH) : gOK G (sTab d lo hi offs pc L st G) := by
  unfold sTab
  repeat' split
  all_goals first | trivial | exact Gle.rf G | exact gr_X _ _ _ _ | exact Gle.mk _ _ _ _ _ | exact Gle.grid _ _ _ _ _
theorem gr_sAthrow (L : AL) (st : List AV) (G : AH) : gOK G (sAthrow L st G) := by
  unfold sAthrow
  repeat' split
  all_goals first | trivial | exact Gle.rf G | exact gr_X _ _ _ _ | exact Gle.mk _ _ _ _ _ | exact Gle.grid _ _ _ _ _
theorem gr_sIret (rk : Nat) (st : List AV) (G : AH) : gOK G (sIret rk st G) := by
  unfold sIret
  repeat' split
  all_goals first | trivial | exact Gle.rf G
set_option maxHeartbeats 8000000 in
theorem gr_stp {y c rk pc len : Nat} {L : AL} {st : List AV} {G : AH} {i : Instr} : gOK G (stp y c rk pc len L st G i) := by
  cases i
  all_goals first | trivial | exact Gle.rf G | exact Gle.mk _ _ _ _ _ | exact gr_call _ _ _ _ _ _ _ _ | exact gr_sIret _ _ _ | exact gr_sAthrow _ _ _ | exact gr_sLdI _ _ _ _ _ | exact gr_sLdL _ _ _ _ _ | exact gr_sLdR _ _ _ _ _ | exact gr_sStI _ _ _ _ _ | exact gr_sStR _ _ _ _ _ | exact gr_sStL _ _ _ _ _ | exact gr_sBin _ _ _ _ _ | exact gr_sBinL _ _ _ _ _ | exact gr_sShL _ _ _ _ _ | exact gr_sUn _ _ _ _ _ | exact gr_sIf _ _ _ _ _ _ | exact gr_sIcmp _ _ _ _ _ _ | exact gr_sAcmp _ _ _ _ _ _ | exact gr_sNull _ _ _ _ _ _ | exact gr_sGet _ _ _ _ _ _ | exact gr_sPut _ _ _ _ _ | exact gr_sAI _ _ _ _ _ _ | exact gr_sAJ _ _ _ _ _ | exact gr_sAR _ _ _ _ | exact gr_sSI _ _ _ _ _ _ _ _ | exact gr_sSB _ _ _ _ _ | exact gr_sSJ _ _ _ _ _ | exact gr_sSR _ _ _ _ | exact gr_sLen _ _ _ _ _ | exact gr_sNewA _ _ _ _ _ _ | exact gr_sNewR _ _ _ _ _ | exact gr_sGrid _ _ _ _ _ _ | exact gr_sCast _ _ _ _ _ _ _ | exact gr_sInst _ _ _ _ _ _ | exact gr_sTab _ _ _ _ _ _ _ _ | (unfold stp; (try dsimp only); (repeat' split); all_goals first | trivial | exact Gle.rf G | exact Gle.mk _ _ _ _ _ | exact gr_call _ _ _ _ _ _ _ _ | exact gr_sIret _ _ _ | exact gr_sAthrow _ _ _ | exact gr_sLdI _ _ _ _ _ | exact gr_sLdL _ _ _ _ _ | exact gr_sLdR _ _ _ _ _ | exact gr_sStI _ _ _ _ _ | exact gr_sStR _ _ _ _ _ | exact gr_sStL _ _ _ _ _ | exact gr_sBin _ _ _ _ _ | exact gr_sBinL _ _ _ _ _ | exact gr_sShL _ _ _ _ _ | exact gr_sUn _ _ _ _ _ | exact gr_sIf _ _ _ _ _ _ | exact gr_sIcmp _ _ _ _ _ _ | exact gr_sAcmp _ _ _ _ _ _ | exact gr_sNull _ _ _ _ _ _ | exact gr_sGet _ _ _ _ _ _ | exact gr_sPut _ _ _ _ _ | exact gr_sAI _ _ _ _ _ _ | exact gr_sAJ _ _ _ _ _ | exact gr_sAR _ _ _ _ | exact gr_sSI _ _ _ _ _ _ _ _ | exact gr_sSB _ _ _ _ _ | exact gr_sSJ _ _ _ _ _ | exact gr_sSR _ _ _ _ | exact gr_sLen _ _ _ _ _ | exact gr_sNewA _ _ _ _ _ _ | exact gr_sNewR _ _ _ _ _ | exact gr_sGrid _ _ _ _ _ _ | exact gr_sCast _ _ _ _ _ _ _ | exact gr_sInst _ _ _ _ _ _ | exact gr_sTab _ _ _ _ _ _ _ _)
theorem ex_grow : ∀ (n d y pc : Nat) (L : AL) (st : List AV) (G : AH) (r : AO × AH), ex n d y pc L st G = some r → Gle G r.2 := by
  intro n
  induction n with
  | zero => intro d y pc L st G r h; simp [ex] at h
  | succ n ih =>
    intro d y pc L st G r h
    rw [ex] at h
    cases hd : decode (mcode y) pc with
    | error _ => rw [hd] at h; simp at h
    | ok q =>
      obtain ⟨i, len⟩ := q
      rw [hd] at h
      dsimp only at h
      by_cases hl : lenOK i len pc = true
      case neg => rw [if_neg hl] at h; cases h
      rw [if_pos hl] at h
      have hg := gr_stp (y := y) (c := mcls y) (rk := mret y) (pc := pc) (len := len) (L := L) (st := st) (G := G) (i := i)
      cases hs : stp y (mcls y) (mret y) pc len L st G i with
      | none => rw [hs] at h; simp at h
      | some q =>
        rw [hs] at h hg
        rcases q with q | q | q | q
        · exact Gle.tr hg (ih _ _ _ _ _ _ _ h)
        · cases h; exact hg
        · dsimp only at h
          by_cases hw : wt st ≤ 16
          case neg => rw [if_neg hw] at h; cases h
          rw [if_pos hw] at h
          cases hh : hnd y pc (hT q.2 q.1) with
          | none => rw [hh] at h; cases h; exact hg
          | some w => rw [hh] at h; exact Gle.tr hg (ih _ _ _ _ _ _ _ h)
        · cases d with
          | zero => cases h
          | succ d =>
            dsimp only at h
            cases hc : ex n d q.1 0 (entry (mmax q.1) q.2.1) [] G with
            | none => rw [hc] at h; simp at h
            | some u =>
              rw [hc] at h
              have h1 := ih _ _ _ _ _ _ _ hc
              obtain ⟨o, G'⟩ := u
              rcases o with v | a
              · exact Gle.tr h1 (ih _ _ _ _ _ _ _ h)
              · dsimp only at h
                cases hh : hnd y pc (hT G' a) with
                | none => rw [hh] at h; cases h; exact h1
                | some w => rw [hh] at h; exact Gle.tr h1 (ih _ _ _ _ _ _ _ h)
/-- the number of the locals stays -/
def lOK (L : AL) : Option SR → Prop
  | some (.inl q) => q.2.1.length = L.length
  | _ => True
theorem ln_X (y pc t : Nat) (L : AL) (G : AH) : lOK L (sX y pc t G) := by
  unfold sX
  split <;> trivial
theorem ln_sStI (k pc : Nat) (L : AL) (st : List AV) (G : AH) : lOK L (sStI k pc L st G) := by
  unfold sStI
  split
  · split
    · next h => exact (sto_spec _ _ _ _ h).2.1
    · trivial
  · trivial
theorem ln_sStR (k pc : Nat) (L : AL) (st : List AV) (G : AH) : lOK L (sStR k pc L st G) := by
  unfold sStR
  split
  · split
    · next h => exact (sto_spec _ _ _ _ h).2.1
    · trivial
  · trivial
theorem ln_sStL (k pc : Nat) (L : AL) (st : List AV) (G : AH) : lOK L (sStL k pc L st G) := by
  unfold sStL
  split
  · split
    · next h => exact (sto2_spec _ _ _ _ h).2.1
    · trivial
  · trivial
theorem ln_copy (y pc : Nat) (L : AL) (A st : List AV) (G : AH) : lOK L (sCopy y pc L A st G) := by
  unfold sCopy
  repeat' split
  all_goals first | trivial | rfl | exact ln_X _ _ _ _ _
theorem ln_to (y z pc len : Nat) (L : AL) (A st : List AV) (G : AH) : lOK L (sTo y z pc len L A st G) := by
  unfold sTo
  repeat' split
  all_goals first | trivial | rfl | exact ln_copy _ _ _ _ _ _
theorem ln_inv (y n : Nat) (ts : List (Nat × Nat)) (kd pc len : Nat) (L : AL) (st : List AV) (G : AH) : lOK L (sInv y n ts kd pc len L st G) := by
  unfold sInv
  repeat' split
  all_goals first | trivial | exact ln_to _ _ _ _ _ _ _ _ | exact ln_X _ _ _ _ _
theorem ln_call (y k kd pc len : Nat) (L : AL) (st : List AV) (G : AH) : lOK L (sCallAt y k kd pc len L st G) := by
  unfold sCallAt
  split
  · exact ln_inv _ _ _ _ _ _ _ _ _
  · trivial
theorem ln_sLdI (k pc : Nat) (L : AL) (st : List AV) (G : AH) : lOK L (sLdI k pc L st G) := by
  unfold sLdI
  repeat' split
  all_goals first | trivial | rfl | exact ln_X _ _ _ _ _
theorem ln_sLdL (k pc : Nat) (L : AL) (st : List AV) (G : AH) : lOK L (sLdL k pc L st G) := by
  unfold sLdL
  repeat' split
  all_goals first | trivial | rfl | exact ln_X _ _ _ _ _
theorem ln_sLdR (k pc : Nat) (L : AL) (st : List AV) (G : AH) : lOK L (sLdR k pc L st G) := by
  unfold sLdR
  repeat' split
  all_goals first | trivial | rfl | exact ln_X _ _ _ _ _
theorem ln_sBin (f : Int32 → Int32 → Int32) (pc : Nat) (L : AL) (st : List AV) (G : AH) : lOK L (sBin f pc L st G) := by
  unfold sBin
  repeat' split
  all_goals first | trivial | rfl | exact ln_X _ _ _ _ _
theorem ln_sBinL (f : Int64 → Int64 → Int64) (pc : Nat) (L : AL) (st : List AV) (G : AH) : lOK L (sBinL f pc L st G) := by
  unfold sBinL
  repeat' split
  all_goals first | trivial | rfl | exact ln_X _ _ _ _ _
theorem ln_sShL (f : Int64 → Int32 → Int64) (pc : Nat) (L : AL) (st : List AV) (G : AH) : lOK L (sShL f pc L st G) := by
  unfold sShL
  repeat' split
  all_goals first | trivial | rfl | exact ln_X _ _ _ _ _
theorem ln_sUn (f : Int32 → Int32) (pc : Nat) (L : AL) (st : List AV) (G : AH) : lOK L (sUn f pc L st G) := by
  unfold sUn
  repeat' split
  all_goals first | trivial | rfl | exact ln_X _ _ _ _ _
theorem ln_sIf (c : Jvm.ClassFile.Cond) (off : Int) (pc : Nat) (L : AL) (st : List AV) (G : AH) : lOK L (sIf c off pc L st G) := by
  unfold sIf
  repeat' split
  all_goals first | trivial | rfl | exact ln_X _ _ _ _ _
theorem ln_sIcmp (c : Jvm.ClassFile.Cond) (off : Int) (pc : Nat) (L : AL) (st : List AV) (G : AH) : lOK L (sIcmp c off pc L st G) := by
  unfold sIcmp
  repeat' split
  all_goals first | trivial | rfl | exact ln_X _ _ _ _ _
theorem ln_sAcmp (b : Bool) (off : Int) (pc : Nat) (L : AL) (st : List AV) (G : AH) : lOK L (sAcmp b off pc L st G) := by
  unfold sAcmp
  repeat' split
  all_goals first | trivial | rfl | exact ln_X _ _ _ _ _
theorem ln_sNull (b : Bool) (off : Int) (pc : Nat) (L : AL) (st : List AV) (G : AH) : lOK L (sNull b off pc L st G) := by
  unfold sNull
  repeat' split
  all_goals first | trivial | rfl | exact ln_X _ _ _ _ _
theorem ln_sGet (y f pc : Nat) (L : AL) (st : List AV) (G : AH) : lOK L (sGet y f pc L st G) := by
  unfold sGet
  repeat' split
  all_goals first | trivial | rfl | exact ln_X _ _ _ _ _
theorem ln_sPut (f pc : Nat) (L : AL) (st : List AV) (G : AH) : lOK L (sPut f pc L st G) := by
  unfold sPut
  repeat' split
  all_goals first | trivial | rfl | exact ln_X _ _ _ _ _
theorem ln_sAI (ts : List Nat) (y pc : Nat) (L : AL) (st : List AV) (G : AH) : lOK L (sAI ts y pc L st G) := by
  unfold sAI
  repeat' split
  all_goals first | trivial | rfl | exact ln_X _ _ _ _ _
theorem ln_sAJ (y pc : Nat) (L : AL) (st : List AV) (G : AH) : lOK L (sAJ y pc L st G) := by
  unfold sAJ
  repeat' split
  all_goals first | trivial | rfl | exact ln_X _ _ _ _ _
theorem ln_sAR (pc : Nat) (L : AL) (st : List AV) (G : AH) : lOK L (sAR pc L st G) := by
  unfold sAR
  repeat' split
  all_goals first | trivial | rfl | exact ln_X _ _ _ _ _
theorem ln_sSI (t : Nat) (f : Int32 → Int32) (ok : Int32 → Bool) (y pc : Nat) (L : AL) (st : List AV) (G : AH) : lOK L (sSI t f ok y pc L st G) := by
  unfold sSI
  repeat' split
  all_goals first | trivial | rfl | exact ln_X _ _ _ _ _
theorem ln_sSB (y pc : Nat) (L : AL) (st : List AV) (G : AH) : lOK L (sSB y pc L st G) := by
  unfold sSB
  repeat' split
  all_goals first | trivial | rfl | exact ln_X _ _ _ _ _ | exact ln_sSI _ _ _ _ _ _ _ _
theorem ln_sSJ (y pc : Nat) (L : AL) (st : List AV) (G : AH) : lOK L (sSJ y pc L st G) := by
  unfold sSJ
  repeat' split
  all_goals first | trivial | rfl | exact ln_X _ _ _ _ _
theorem ln_sSR (pc : Nat) (L : AL) (st : List AV) (G : AH) : lOK L (sSR pc L st G) := by
  unfold sSR
  repeat' split
  all_goals first | trivial | rfl | exact ln_X _ _ _ _ _
theorem ln_sLen (y pc : Nat) (L : AL) (st : List AV) (G : AH) : lOK L (sLen y pc L st G) := by
  unfold sLen
  repeat' split
  all_goals first | trivial | rfl | exact ln_X _ _ _ _ _
theorem ln_sNewA (t : ArrayType) (y pc : Nat) (L : AL) (st : List AV) (G : AH) : lOK L (sNewA t y pc L st G) := by
  unfold sNewA
  repeat' split
  all_goals first | trivial | rfl | exact ln_X _ _ _ _ _
theorem ln_sNewR (t pc : Nat) (L : AL) (st : List AV) (G : AH) : lOK L (sNewR t pc L st G) := by
  unfold sNewR
  repeat' split
  all_goals first | trivial | rfl | exact ln_X _ _ _ _ _
theorem ln_sGrid (t t2 pc : Nat) (L : AL) (st : List AV) (G : AH) : lOK L (sGrid t t2 pc L st G) := by
  unfold sGrid
  repeat' split
  all_goals first | trivial | rfl | exact ln_X _ _ _ _ _
theorem ln_sCast (y : Nat) (ts ns : List Nat) (pc : Nat) (L : AL) (st : List AV) (G : AH) : lOK L (sCast y ts ns pc L st G) := by
  unfold sCast
  repeat' split
  all_goals first | trivial | rfl | exact ln_X _ _ _ _ _
theorem ln_sInst (ts ns : List Nat) (pc : Nat) (L : AL) (st : List AV) (G : AH) : lOK L (sInst ts ns pc L st G) := by
  unfold sInst
  repeat' split
  all_goals first | trivial | rfl | exact ln_X _ _ _ _ _
theorem ln_sTab (d lo hi : Int) (offs : Array Int) (pc : Nat) (L : AL) (st : List AV) (G : AH) : lOK L (sTab d lo hi offs pc L st G) := by
  unfold sTab
  repeat' split
  all_goals first | trivial | rfl | exact ln_X _ _ _ _ _
theorem ln_sAthrow (L : AL) (st : List AV) (G : AH) : lOK L (sAthrow L st G) := by
  unfold sAthrow
  repeat' split
  all_goals first | trivial | rfl | exact ln_X _ _ _ _ _
theorem ln_sIret (rk : Nat) (st : List AV) (L : AL) (G : AH) : lOK L (sIret rk st G) := by
  unfold sIret
  repeat' split
  all_goals trivial
theorem ln_iinc (k : Nat) (n : Int) (pc : Nat) (L : AL) (st : List AV) (G : AH) : lOK L (match inc L k (Int32.ofInt n) with | some L => sGo (pc + 3) L st G | none => none) := by
  split
  · next h =>
    obtain ⟨x, -, h2, -⟩ := inc_spec _ _ _ _ h
    exact h2
  · trivial
set_option maxHeartbeats 8000000 in
theorem ln_stp {y c rk pc len : Nat} {L : AL} {st : List AV} {G : AH} {i : Instr} : lOK L (stp y c rk pc len L st G i) := by
  cases i
  all_goals first | trivial | rfl | exact ln_iinc _ _ _ _ _ _ | exact ln_call _ _ _ _ _ _ _ _ | exact ln_sAthrow _ _ _ | exact ln_sLdI _ _ _ _ _ | exact ln_sLdL _ _ _ _ _ | exact ln_sLdR _ _ _ _ _ | exact ln_sStI _ _ _ _ _ | exact ln_sStR _ _ _ _ _ | exact ln_sStL _ _ _ _ _ | exact ln_sBin _ _ _ _ _ | exact ln_sBinL _ _ _ _ _ | exact ln_sShL _ _ _ _ _ | exact ln_sUn _ _ _ _ _ | exact ln_sIf _ _ _ _ _ _ | exact ln_sIcmp _ _ _ _ _ _ | exact ln_sAcmp _ _ _ _ _ _ | exact ln_sNull _ _ _ _ _ _ | exact ln_sGet _ _ _ _ _ _ | exact ln_sPut _ _ _ _ _ | exact ln_sAI _ _ _ _ _ _ | exact ln_sAJ _ _ _ _ _ | exact ln_sAR _ _ _ _ | exact ln_sSI _ _ _ _ _ _ _ _ | exact ln_sSB _ _ _ _ _ | exact ln_sSJ _ _ _ _ _ | exact ln_sSR _ _ _ _ | exact ln_sLen _ _ _ _ _ | exact ln_sNewA _ _ _ _ _ _ | exact ln_sNewR _ _ _ _ _ | exact ln_sGrid _ _ _ _ _ _ | exact ln_sCast _ _ _ _ _ _ _ | exact ln_sInst _ _ _ _ _ _ | exact ln_sTab _ _ _ _ _ _ _ _ | exact ln_sIret _ _ _ _ | (unfold stp; (try dsimp only); (repeat' split); all_goals first | trivial | rfl | exact ln_call _ _ _ _ _ _ _ _ | exact ln_sAthrow _ _ _ | exact ln_sLdI _ _ _ _ _ | exact ln_sLdL _ _ _ _ _ | exact ln_sLdR _ _ _ _ _ | exact ln_sStI _ _ _ _ _ | exact ln_sStR _ _ _ _ _ | exact ln_sStL _ _ _ _ _ | exact ln_sBin _ _ _ _ _ | exact ln_sBinL _ _ _ _ _ | exact ln_sShL _ _ _ _ _ | exact ln_sUn _ _ _ _ _ | exact ln_sIf _ _ _ _ _ _ | exact ln_sIcmp _ _ _ _ _ _ | exact ln_sAcmp _ _ _ _ _ _ | exact ln_sNull _ _ _ _ _ _ | exact ln_sGet _ _ _ _ _ _ | exact ln_sPut _ _ _ _ _ | exact ln_sAI _ _ _ _ _ _ | exact ln_sAJ _ _ _ _ _ | exact ln_sAR _ _ _ _ | exact ln_sSI _ _ _ _ _ _ _ _ | exact ln_sSB _ _ _ _ _ | exact ln_sSJ _ _ _ _ _ | exact ln_sSR _ _ _ _ | exact ln_sLen _ _ _ _ _ | exact ln_sNewA _ _ _ _ _ _ | exact ln_sNewR _ _ _ _ _ | exact ln_sGrid _ _ _ _ _ _ | exact ln_sCast _ _ _ _ _ _ _ | exact ln_sInst _ _ _ _ _ _ | exact ln_sTab _ _ _ _ _ _ _ _ | exact ln_sIret _ _ _ _)
