/-! soundness 25: which instructions call, and what -/
def isCl (r : Option SR) : Bool := match r with
  | some (.inr (.inr (.inr _))) => true
  | _ => false
def isInv (i : Instr) : Bool := match i with
  | .invokestatic _ | .invokespecial _ | .invokevirtual _ | .invokeinterface .. => true
  | _ => false
theorem nc_X (y pc t : Nat) (G : AH) : isCl (sX y pc t G) = false := by unfold sX; split <;> rfl
theorem nc_sLdI (k pc : Nat) (L : AL) (st : List AV) (G : AH) : isCl (sLdI k pc L st G) = false := by
  unfold sLdI
  repeat' split
  all_goals first | rfl | exact nc_X _ _ _ _
theorem nc_sLdL (k pc : Nat) (L : AL) (st : List AV) (G : AH) : isCl (sLdL k pc L st G) = false := by
  unfold sLdL
  repeat' split
  all_goals first | rfl | exact nc_X _ _ _ _
theorem nc_sLdR (k pc : Nat) (L : AL) (st : List AV) (G : AH) : isCl (sLdR k pc L st G) = false := by
  unfold sLdR
  repeat' split
  all_goals first | rfl | exact nc_X _ _ _ _
theorem nc_sStI (k pc : Nat) (L : AL) (st : List AV) (G : AH) : isCl (sStI k pc L st G) = false := by
  unfold sStI
  repeat' split
  all_goals first | rfl | exact nc_X _ _ _ _
theorem nc_sStR (k pc : Nat) (L : AL) (st : List AV) (G : AH) : isCl (sStR k pc L st G) = false := by
  unfold sStR
  repeat' split
  all_goals first | rfl | exact nc_X _ _ _ _
theorem nc_sStL (k pc : Nat) (L : AL) (st : List AV) (G : AH) : isCl (sStL k pc L st G) = false := by
  unfold sStL
  repeat' split
  all_goals first | rfl | exact nc_X _ _ _ _
theorem nc_sBin (f : Int32 → Int32 → Int32) (pc : Nat) (L : AL) (st : List AV) (G : AH) : isCl (sBin f pc L st G) = false := by
  unfold sBin
  repeat' split
  all_goals first | rfl | exact nc_X _ _ _ _
theorem nc_sBinL (f : Int64 → Int64 → Int64) (pc : Nat) (L : AL) (st : List AV) (G : AH) : isCl (sBinL f pc L st G) = false := by
  unfold sBinL
  repeat' split
  all_goals first | rfl | exact nc_X _ _ _ _
theorem nc_sShL (f : Int64 → Int32 → Int64) (pc : Nat) (L : AL) (st : List AV) (G : AH) : isCl (sShL f pc L st G) = false := by
  unfold sShL
  repeat' split
  all_goals first | rfl | exact nc_X _ _ _ _
theorem nc_sUn (f : Int32 → Int32) (pc : Nat) (L : AL) (st : List AV) (G : AH) : isCl (sUn f pc L st G) = false := by
  unfold sUn
  repeat' split
  all_goals first | rfl | exact nc_X _ _ _ _
theorem nc_sIf (c : Jvm.ClassFile.Cond) (off : Int) (pc : Nat) (L : AL) (st : List AV) (G : AH) : isCl (sIf c off pc L st G) = false := by
  unfold sIf
  repeat' split
  all_goals first | rfl | exact nc_X _ _ _ _
theorem nc_sIcmp (c : Jvm.ClassFile.Cond) (off : Int) (pc : Nat) (L : AL) (st : List AV) (G : AH) : isCl (sIcmp c off pc L st G) = false := by
  unfold sIcmp
  repeat' split
  all_goals first | rfl | exact nc_X _ _ _ _
theorem nc_sAcmp (b : Bool) (off : Int) (pc : Nat) (L : AL) (st : List AV) (G : AH) : isCl (sAcmp b off pc L st G) = false := by
  unfold sAcmp
  repeat' split
  all_goals first | rfl | exact nc_X _ _ _ _
theorem nc_sNull (b : Bool) (off : Int) (pc : Nat) (L : AL) (st : List AV) (G : AH) : isCl (sNull b off pc L st G) = false := by
  unfold sNull
  repeat' split
  all_goals first | rfl | exact nc_X _ _ _ _
theorem nc_sGet (y f pc : Nat) (L : AL) (st : List AV) (G : AH) : isCl (sGet y f pc L st G) = false := by
  unfold sGet
  repeat' split
  all_goals first | rfl | exact nc_X _ _ _ _
theorem nc_sPut (f pc : Nat) (L : AL) (st : List AV) (G : AH) : isCl (sPut f pc L st G) = false := by
  unfold sPut
  repeat' split
  all_goals first | rfl | exact nc_X _ _ _ _
theorem nc_sAI (ts : List Nat) (y pc : Nat) (L : AL) (st : List AV) (G : AH) : isCl (sAI ts y pc L st G) = false := by
  unfold sAI
  repeat' split
  all_goals first | rfl | exact nc_X _ _ _ _
theorem nc_sAJ (y pc : Nat) (L : AL) (st : List AV) (G : AH) : isCl (sAJ y pc L st G) = false := by
  unfold sAJ
  repeat' split
  all_goals first | rfl | exact nc_X _ _ _ _
theorem nc_sAR (pc : Nat) (L : AL) (st : List AV) (G : AH) : isCl (sAR pc L st G) = false := by
  unfold sAR
  repeat' split
  all_goals first | rfl | exact nc_X _ _ _ _
theorem nc_sSI (t : Nat) (f : Int32 → Int32) (ok : Int32 → Bool) (y pc : Nat) (L : AL) (st : List AV) (G : AH) : isCl (sSI t f ok y pc L st G) = false := by
  unfold sSI
  repeat' split
  all_goals first | rfl | exact nc_X _ _ _ _
theorem nc_sSB (y pc : Nat) (L : AL) (st : List AV) (G : AH) : isCl (sSB y pc L st G) = false := by
  unfold sSB
  repeat' split
  all_goals first | rfl | exact nc_X _ _ _ _ | exact nc_sSI _ _ _ _ _ _ _ _
theorem nc_sSJ (y pc : Nat) (L : AL) (st : List AV) (G : AH) : isCl (sSJ y pc L st G) = false := by
  unfold sSJ
  repeat' split
  all_goals first | rfl | exact nc_X _ _ _ _
theorem nc_sSR (pc : Nat) (L : AL) (st : List AV) (G : AH) : isCl (sSR pc L st G) = false := by
  unfold sSR
  repeat' split
  all_goals first | rfl | exact nc_X _ _ _ _
theorem nc_sLen (y pc : Nat) (L : AL) (st : List AV) (G : AH) : isCl (sLen y pc L st G) = false := by
  unfold sLen
  repeat' split
  all_goals first | rfl | exact nc_X _ _ _ _
theorem nc_sNewA (t : ArrayType) (y pc : Nat) (L : AL) (st : List AV) (G : AH) : isCl (sNewA t y pc L st G) = false := by
  unfold sNewA
  repeat' split
  all_goals first | rfl | exact nc_X _ _ _ _
theorem nc_sNewR (t pc : Nat) (L : AL) (st : List AV) (G : AH) : isCl (sNewR t pc L st G) = false := by
  unfold sNewR
  repeat' split
  all_goals first | rfl | exact nc_X _ _ _ _
theorem nc_sGrid (t t2 pc : Nat) (L : AL) (st : List AV) (G : AH) : isCl (sGrid t t2 pc L st G) = false := by
  unfold sGrid
  repeat' split
  all_goals first | rfl | exact nc_X _ _ _ _
theorem nc_sCast (y : Nat) (ts ns : List Nat) (pc : Nat) (L : AL) (st : List AV) (G : AH) : isCl (sCast y ts ns pc L st G) = false := by
  unfold sCast
  repeat' split
  all_goals first | rfl | exact nc_X _ _ _ _
theorem nc_sInst (ts ns : List Nat) (pc : Nat) (L : AL) (st : List AV) (G : AH) : isCl (sInst ts ns pc L st G) = false := by
  unfold sInst
  repeat' split
  all_goals first | rfl | exact nc_X _ _ _ _
theorem nc_sTab (d lo hi : Int) (offs : Array Int) (pc : Nat) (L : AL) (st : List AV) (G : AH) : isCl (sTab d lo hi offs pc L st G) = false := by
  unfold sTab
  repeat' split
  all_goals first | rfl | exact nc_X _ _ _ _
theorem nc_sAthrow (L : AL) (st : List AV) (G : AH) : isCl (sAthrow L st G) = false := by
  unfold sAthrow
  repeat' split
  all_goals first | rfl | exact nc_X _ _ _ _
theorem nc_sIret (rk : Nat) (st : List AV) (G : AH) : isCl (sIret rk st G) = false := by
  unfold sIret
  repeat' split
  all_goals rfl
theorem isInv1 (k : Nat) : isInv (.invokestatic k) = true := rfl
theorem isInv2 (k : Nat) : isInv (.invokespecial k) = true := rfl
theorem isInv3 (k : Nat) : isInv (.invokevirtual k) = true := rfl
theorem isInv4 (k n : Nat) : isInv (.invokeinterface k n) = true := rfl
set_option maxHeartbeats 8000000 in
theorem nc_stp {y c rk pc len : Nat} {L : AL} {st : List AV} {G : AH} {i : Instr} (h : isInv i = false) : isCl (stp y c rk pc len L st G i) = false := by
  cases i
  case invokestatic k => exact absurd ((isInv1 k).symm.trans h) (by decide)
  case invokespecial k => exact absurd ((isInv2 k).symm.trans h) (by decide)
  case invokevirtual k => exact absurd ((isInv3 k).symm.trans h) (by decide)
  case invokeinterface k n => exact absurd ((isInv4 k n).symm.trans h) (by decide)
  all_goals first | rfl | (cases (show true = false from h)) | exact nc_sAthrow _ _ _ | exact nc_sLdI _ _ _ _ _ | exact nc_sLdL _ _ _ _ _ | exact nc_sLdR _ _ _ _ _ | exact nc_sStI _ _ _ _ _ | exact nc_sStR _ _ _ _ _ | exact nc_sStL _ _ _ _ _ | exact nc_sBin _ _ _ _ _ | exact nc_sBinL _ _ _ _ _ | exact nc_sShL _ _ _ _ _ | exact nc_sUn _ _ _ _ _ | exact nc_sIf _ _ _ _ _ _ | exact nc_sIcmp _ _ _ _ _ _ | exact nc_sAcmp _ _ _ _ _ _ | exact nc_sNull _ _ _ _ _ _ | exact nc_sGet _ _ _ _ _ _ | exact nc_sPut _ _ _ _ _ | exact nc_sAI _ _ _ _ _ _ | exact nc_sAJ _ _ _ _ _ | exact nc_sAR _ _ _ _ | exact nc_sSI _ _ _ _ _ _ _ _ | exact nc_sSB _ _ _ _ _ | exact nc_sSJ _ _ _ _ _ | exact nc_sSR _ _ _ _ | exact nc_sLen _ _ _ _ _ | exact nc_sNewA _ _ _ _ _ _ | exact nc_sNewR _ _ _ _ _ | exact nc_sGrid _ _ _ _ _ _ | exact nc_sCast _ _ _ _ _ _ _ | exact nc_sInst _ _ _ _ _ _ | exact nc_sTab _ _ _ _ _ _ _ _ | exact nc_sIret _ _ _ | (unfold stp; (try dsimp only); (repeat' split); all_goals first | rfl | exact nc_sAthrow _ _ _ | exact nc_sLdI _ _ _ _ _ | exact nc_sLdL _ _ _ _ _ | exact nc_sLdR _ _ _ _ _ | exact nc_sStI _ _ _ _ _ | exact nc_sStR _ _ _ _ _ | exact nc_sStL _ _ _ _ _ | exact nc_sBin _ _ _ _ _ | exact nc_sBinL _ _ _ _ _ | exact nc_sShL _ _ _ _ _ | exact nc_sUn _ _ _ _ _ | exact nc_sIf _ _ _ _ _ _ | exact nc_sIcmp _ _ _ _ _ _ | exact nc_sAcmp _ _ _ _ _ _ | exact nc_sNull _ _ _ _ _ _ | exact nc_sGet _ _ _ _ _ _ | exact nc_sPut _ _ _ _ _ | exact nc_sAI _ _ _ _ _ _ | exact nc_sAJ _ _ _ _ _ | exact nc_sAR _ _ _ _ | exact nc_sSI _ _ _ _ _ _ _ _ | exact nc_sSB _ _ _ _ _ | exact nc_sSJ _ _ _ _ _ | exact nc_sSR _ _ _ _ | exact nc_sLen _ _ _ _ _ | exact nc_sNewA _ _ _ _ _ _ | exact nc_sNewR _ _ _ _ _ | exact nc_sGrid _ _ _ _ _ _ | exact nc_sCast _ _ _ _ _ _ _ | exact nc_sInst _ _ _ _ _ _ | exact nc_sTab _ _ _ _ _ _ _ _ | exact nc_sIret _ _ _ | contradiction)
/-- what a call is -/
def CSh (c pc len : Nat) (st : List AV) (G : AH) (i : Instr) (z : Nat) (A : List AV) (pc' : Nat) (st' : List AV) (k n t : Nat) (ts : List (Nat × Nat)) : Prop :=
  callR (kf c k) = some (n, ts) ∧ (t, z) ∈ ts ∧ n ≤ st.length ∧ A = (st.take n).reverse ∧ st' = st.drop n ∧ wt st' ≤ 16 ∧ z < 1000 ∧ (lay A).length ≤ mxl z ∧
  ((i = .invokestatic k ∧ pc' = pc + 3 ∧ t = 997) ∨ (∃ a A', A = vr (some a) :: A' ∧ ((i = .invokespecial k ∧ pc' = pc + 3 ∧ (t = 998 ∨ (t = 996 ∧ hT G a < 40))) ∨ (i = .invokevirtual k ∧ pc' = pc + 3 ∧ t = hT G a) ∨ (∃ cnt, i = .invokeinterface k cnt ∧ pc' = pc + 5 ∧ t = hT G a + 100))))
theorem to_call {y z0 pc len : Nat} {L : AL} {A0 st0 : List AV} {G : AH} {z : Nat} {A : List AV} {pc' : Nat} {st' : List AV} (h : sTo y z0 pc len L A0 st0 G = some (.inr (.inr (.inr (z, A, pc', st'))))) : z0 = z ∧ A0 = A ∧ pc' = pc + len ∧ st0 = st' ∧ wt st' ≤ 16 ∧ z < 1000 ∧ (lay A).length ≤ mxl z := by
  unfold sTo at h
  split at h
  · next hz =>
    split at h
    · next hw => cases h; exact ⟨rfl, rfl, rfl, rfl, hw.1, hz, hw.2⟩
    · cases h
  · have hcl : isCl (some (Sum.inr (Sum.inr (Sum.inr (z, A, pc', st')))) : Option SR) = true := rfl
    rw [← h] at hcl
    exfalso
    revert hcl
    repeat' split
    all_goals first | exact fun q => by cases q | skip
    have h2 : isCl (sCopy y pc L A0 st0 G) = false := by
      unfold sCopy
      repeat' split
      all_goals first | rfl | exact nc_X _ _ _ _
    rw [h2]
    exact fun q => by cases q
theorem vsel_mem {ts : List (Nat × Nat)} {t z : Nat} (h9 : ¬ ts.any (fun q => q.1 == 999) = true) (h : vsel ts t = some z) : (t, z) ∈ ts := by
  unfold vsel at h
  rw [if_neg h9] at h
  cases e : ts.find? (fun q => q.1 == t) with
  | none => rw [e] at h; cases h
  | some q =>
    rw [e] at h
    have h1 : q.2 = z := by simpa using h
    have h2 : q.1 = t := by simpa using List.find?_some e
    have h3 := List.mem_of_find?_eq_some e
    rw [← h1, ← h2]
    exact h3
theorem vself_mem {ts : List (Nat × Nat)} {t z : Nat} (h : vself ts t = some z) : (t + 100, z) ∈ ts := by
  unfold vself at h
  cases e : ts.find? (fun q => q.1 == t + 100) with
  | none => rw [e] at h; cases h
  | some q =>
    rw [e] at h
    have h1 : q.2 = z := by simpa using h
    have h2 : q.1 = t + 100 := by simpa using List.find?_some e
    have h3 := List.mem_of_find?_eq_some e
    rw [← h1, ← h2]
    exact h3
theorem at_call {y key kd pc len : Nat} {L : AL} {st : List AV} {G : AH} {r : SR} (h : sCallAt y key kd pc len L st G = some r) : ∃ n ts, callR key = some (n, ts) ∧ n ≤ st.length ∧ sInv y n ts kd pc len L st G = some r := by
  unfold sCallAt at h
  split at h
  · next n ts hk =>
    refine ⟨n, ts, hk, ?_, h⟩
    unfold sInv at h
    split at h
    · next hn => exact hn
    · cases h
  · cases h
theorem inv_0 {y n pc len : Nat} {ts : List (Nat × Nat)} {L : AL} {st : List AV} {G : AH} {r : SR} (h : sInv y n ts 0 pc len L st G = some r) : ∃ z, ts = [(997, z)] ∧ sTo y z pc len L (st.take n).reverse (st.drop n) G = some r := by
  unfold sInv at h
  split at h
  · rcases ts with _ | ⟨⟨t, z⟩, _ | ⟨q2, ts⟩⟩
    · cases (show (none : Option SR) = some r from h)
    · have h : (if t = 997 then sTo y z pc len L (st.take n).reverse (st.drop n) G else none) = some r := h
      split at h
      · next e => exact ⟨z, by rw [e], h⟩
      · cases h
    · cases (show (none : Option SR) = some r from h)
  · cases h
theorem inv_1 {y n pc len : Nat} {ts : List (Nat × Nat)} {L : AL} {st : List AV} {G : AH} {r : SR} (h : sInv y n ts 1 pc len L st G = some r) : ∃ z t a A, ts = [(t, z)] ∧ (t = 998 ∨ (t = 996 ∧ hT G a < 40)) ∧ (st.take n).reverse = vr (some a) :: A ∧ sTo y z pc len L (st.take n).reverse (st.drop n) G = some r := by
  unfold sInv at h
  split at h
  · cases e : (st.take n).reverse with
    | nil => rw [e] at h; cases h
    | cons v A =>
      rw [e] at h
      rcases v with x | x | x
      · cases h
      · cases h
      · cases x with
        | none => cases h
        | some a =>
          rcases ts with _ | ⟨⟨t, z⟩, _ | ⟨q2, ts⟩⟩
          · cases (show (none : Option SR) = some r from h)
          · have h : (if t = 998 ∨ (t = 996 ∧ hT G a < 40) then sTo y z pc len L (.inr (.inr (some a)) :: A) (st.drop n) G else none) = some r := h
            split at h
            · next q => exact ⟨z, t, a, A, rfl, q, rfl, h⟩
            · cases h
          · cases (show (none : Option SR) = some r from h)
  · cases h
theorem inv_2 {y n pc len : Nat} {ts : List (Nat × Nat)} {L : AL} {st : List AV} {G : AH} {r : SR} (h : sInv y n ts 2 pc len L st G = some r) : (∃ z a A, vsel ts (hT G a) = some z ∧ (st.take n).reverse = vr (some a) :: A ∧ sTo y z pc len L (st.take n).reverse (st.drop n) G = some r) ∨ (∃ A, (st.take n).reverse = vr none :: A ∧ sX y pc 20 G = some r) := by
  unfold sInv at h
  split at h
  · cases e : (st.take n).reverse with
    | nil => rw [e] at h; cases h
    | cons v A =>
      rw [e] at h
      rcases v with x | x | x
      · cases h
      · cases h
      · cases x with
        | none => exact Or.inr ⟨A, rfl, h⟩
        | some a =>
          have h : (match vsel ts (hT G a) with
            | some z => sTo y z pc len L (.inr (.inr (some a)) :: A) (st.drop n) G
            | none => none) = some r := h
          split at h
          · next z hz => exact Or.inl ⟨z, a, A, hz, rfl, h⟩
          · cases h
  · cases h
theorem inv_3 {y n pc len : Nat} {ts : List (Nat × Nat)} {L : AL} {st : List AV} {G : AH} {r : SR} (h : sInv y n ts 3 pc len L st G = some r) : (∃ z a A, vself ts (hT G a) = some z ∧ (st.take n).reverse = vr (some a) :: A ∧ sTo y z pc len L (st.take n).reverse (st.drop n) G = some r) ∨ (∃ A, (st.take n).reverse = vr none :: A ∧ sX y pc 20 G = some r) := by
  unfold sInv at h
  split at h
  · cases e : (st.take n).reverse with
    | nil => rw [e] at h; cases h
    | cons v A =>
      rw [e] at h
      rcases v with x | x | x
      · cases h
      · cases h
      · cases x with
        | none => exact Or.inr ⟨A, rfl, h⟩
        | some a =>
          have h : (match vself ts (hT G a) with
            | some z => sTo y z pc len L (.inr (.inr (some a)) :: A) (st.drop n) G
            | none => none) = some r := h
          split at h
          · next z hz => exact Or.inl ⟨z, a, A, hz, rfl, h⟩
          · cases h
  · cases h
theorem sX_nocall {y pc t : Nat} {G : AH} {q : Nat × List AV × Nat × List AV} (h : sX y pc t G = some (.inr (.inr (.inr q)))) : False := by
  unfold sX at h
  split at h <;> cases h
theorem call_sh {y c rk pc len : Nat} {L : AL} {st : List AV} {G : AH} {i : Instr} {z : Nat} {A : List AV} {pc' : Nat} {st' : List AV} (hs : stp y c rk pc len L st G i = some (.inr (.inr (.inr (z, A, pc', st'))))) : ∃ k n t ts, CSh c pc len st G i z A pc' st' k n t ts := by
  have hI : isInv i = true := by
    cases h : isInv i with
    | true => rfl
    | false =>
      have h9 := nc_stp (y := y) (c := c) (rk := rk) (pc := pc) (len := len) (L := L) (st := st) (G := G) h
      rw [hs] at h9
      cases h9
  cases i
  case invokestatic k =>
    obtain ⟨n, ts, hk, hn, h⟩ := at_call (show sCallAt y (kf c k) 0 pc 3 L st G = _ from hs)
    obtain ⟨z0, e, h⟩ := inv_0 h
    obtain ⟨rfl, e2, e3, e4, hw, hz, hx⟩ := to_call h
    exact ⟨k, n, 997, ts, hk, by rw [e]; exact List.mem_singleton.mpr rfl, hn, e2.symm, e4.symm, hw, hz, hx, Or.inl ⟨rfl, e3, rfl⟩⟩
  case invokespecial k =>
    obtain ⟨n, ts, hk, hn, h⟩ := at_call (show sCallAt y (kf c k) 1 pc 3 L st G = _ from hs)
    obtain ⟨z0, t, a, A1, e, ht, e5, h⟩ := inv_1 h
    obtain ⟨rfl, e2, e3, e4, hw, hz, hx⟩ := to_call h
    exact ⟨k, n, t, ts, hk, by rw [e]; exact List.mem_singleton.mpr rfl, hn, e2.symm, e4.symm, hw, hz, hx, Or.inr ⟨a, A1, e2.symm.trans e5, Or.inl ⟨rfl, e3, ht⟩⟩⟩
  case invokevirtual k =>
    obtain ⟨n, ts, hk, hn, h⟩ := at_call (show sCallAt y (kf c k) 2 pc 3 L st G = _ from hs)
    rcases inv_2 h with ⟨z0, a, A1, hv, e5, h⟩ | ⟨A1, -, h⟩
    · obtain ⟨rfl, e2, e3, e4, hw, hz, hx⟩ := to_call h
      have h9 : ¬ ts.any (fun q => q.1 == 999) = true := fun q => by
        rw [ca_nine hk q] at hv
        cases hv
        exact absurd hz (by decide)
      exact ⟨k, n, hT G a, ts, hk, vsel_mem h9 hv, hn, e2.symm, e4.symm, hw, hz, hx, Or.inr ⟨a, A1, e2.symm.trans e5, Or.inr (Or.inl ⟨rfl, e3, rfl⟩)⟩⟩
    · exact (sX_nocall h).elim
  case invokeinterface k cnt =>
    obtain ⟨n, ts, hk, hn, h⟩ := at_call (show sCallAt y (kf c k) 3 pc 5 L st G = _ from hs)
    rcases inv_3 h with ⟨z0, a, A1, hv, e5, h⟩ | ⟨A1, -, h⟩
    · obtain ⟨rfl, e2, e3, e4, hw, hz, hx⟩ := to_call h
      exact ⟨k, n, hT G a + 100, ts, hk, vself_mem hv, hn, e2.symm, e4.symm, hw, hz, hx, Or.inr ⟨a, A1, e2.symm.trans e5, Or.inr (Or.inr ⟨cnt, rfl, e3, rfl⟩)⟩⟩
    · exact (sX_nocall h).elim
  all_goals cases hI
