/-! soundness 13: the end of a method; what grows -/
def OutOK (ad : Nat → Nat) (G : AH) (o : AO) (oc : Outcome) : Prop := match o with
  | .inl v => oc = .returned (v.map (cvl ad)) ∧ ∀ w, v = some w → Scp G w
  | .inr a => oc = .threw (ad a) ∧ a < hN G ∧ hT G a ∈ excT
/-- the end of an invocation that began at s: the outcome o, the heap G' -/
def FinQ (Z : SS0) (D : DD) (below : List Frame) (s : State) (ad : Nat → Nat) (G : AH) (o : AO) (G' : AH) (mc ms : Nat) : State → Prop := fun t =>
  ∃ oc, t.status = .running ∧ Ended t below oc ∧ (∃ ad' : Nat → Nat, (∀ r, r < hN G → ad' r = ad r) ∧ Conc Z D ad' G' t.heap ∧ OutOK ad' G' o oc) ∧ s.WarmedH t.vm ∧ ∃ L, s.sameButNew ({ t with vm := s.vm } : State) L mc ms ∧ ∀ q ∈ L, Z.s.heap.size ≤ q.base
theorem W.mono {p : Program} {l : Launch} {e : Env} {R : Room} {s : State} {m : MethodId} {args : Array Value} {below : List Frame} {meth : Method} {c : Code} {H : Heap} {locs : List Loc} {cells slots : Nat} {Q Q' : State → Prop} {g : JFrame} (h : ∀ t, Q t → Q' t) (k : W p l e R s m args below meth c H locs cells slots Q g) : W p l e R s m args below meth c H locs cells slots Q' g := by
  intro T hT X
  obtain ⟨t, a, b⟩ := k T hT X
  exact ⟨t, a, h t b⟩
theorem mret_rt : ∀ y, (mret y = 1 → mrt y = some .int) ∧ (mret y = 4 → mrt y = some .boolean) ∧ (mret y = 2 → mrt y = some .long) ∧ (mret y = 3 → (∃ n, mrt y = some (.object n)) ∨ ∃ t, mrt y = some (.array t)) ∧ (mret y = 0 → mrt y = none) := by
  have h0 : mT.length = 357 := by decide +kernel
  have h1 : rtT.length = 357 := by decide +kernel
  have h2 : ∀ y, y < 357 → (mret y = 1 → mrt y = some .int) ∧ (mret y = 4 → mrt y = some .boolean) ∧ (mret y = 2 → mrt y = some .long) ∧ (mret y = 3 → (match mrt y with | some (.object _) => true | some (.array _) => true | _ => false) = true) ∧ (mret y = 0 → mrt y = none) := by decide +kernel
  intro y
  rcases Nat.lt_or_ge y 357 with h | h
  · obtain ⟨a1, a2, a3, a4, a5⟩ := h2 y h
    refine ⟨a1, a2, a3, fun q => ?_, a5⟩
    have := a4 q
    revert this
    split
    · next n e => exact fun _ => Or.inl ⟨n, e⟩
    · next n e => exact fun _ => Or.inr ⟨n, e⟩
    · intro w; cases w
  · have e1 : mret y = 0 := by
      unfold mret mRow
      rw [List.getD_eq_getElem?_getD, List.getElem?_eq_none (by omega)]
      rfl
    have e2 : mrt y = none := by
      unfold mrt
      rw [List.getD_eq_getElem?_getD, List.getElem?_eq_none (by omega)]
      rfl
    rw [e1]
    exact ⟨fun q => absurd q (by decide), fun q => absurd q (by decide), fun q => absurd q (by decide), fun q => absurd q (by decide), fun _ => e2⟩
def isRet (r : Option SR) : Bool := match r with
  | some (.inr (.inl _)) => true
  | _ => false
theorem nr_X (y pc t : Nat) (G : AH) : isRet (sX y pc t G) = false := by unfold sX; split <;> rfl
theorem nr_copy (y pc : Nat) (L : AL) (A st : List AV) (G : AH) : isRet (sCopy y pc L A st G) = false := by
  unfold sCopy
  repeat' split
  all_goals first | rfl | exact nr_X _ _ _ _
theorem nr_to (y z pc len : Nat) (L : AL) (A st : List AV) (G : AH) : isRet (sTo y z pc len L A st G) = false := by
  unfold sTo
  repeat' split
  all_goals first | rfl | exact nr_copy _ _ _ _ _ _
theorem nr_inv (y n : Nat) (ts : List (Nat × Nat)) (kd pc len : Nat) (L : AL) (st : List AV) (G : AH) : isRet (sInv y n ts kd pc len L st G) = false := by
  unfold sInv
  repeat' split
  all_goals first | rfl | exact nr_to _ _ _ _ _ _ _ _ | exact nr_X _ _ _ _
theorem nr_call (y k kd pc len : Nat) (L : AL) (st : List AV) (G : AH) : isRet (sCallAt y k kd pc len L st G) = false := by
  unfold sCallAt
  split
  · exact nr_inv _ _ _ _ _ _ _ _ _
  · rfl
theorem nr_sLdI (k pc : Nat) (L : AL) (st : List AV) (G : AH) : isRet (sLdI k pc L st G) = false := by
  unfold sLdI
  repeat' split
  all_goals first | rfl | exact nr_X _ _ _ _
theorem nr_sLdL (k pc : Nat) (L : AL) (st : List AV) (G : AH) : isRet (sLdL k pc L st G) = false := by
  unfold sLdL
  repeat' split
  all_goals first | rfl | exact nr_X _ _ _ _
theorem nr_sLdR (k pc : Nat) (L : AL) (st : List AV) (G : AH) : isRet (sLdR k pc L st G) = false := by
  unfold sLdR
  repeat' split
  all_goals first | rfl | exact nr_X _ _ _ _
theorem nr_sStI (k pc : Nat) (L : AL) (st : List AV) (G : AH) : isRet (sStI k pc L st G) = false := by
  unfold sStI
  repeat' split
  all_goals first | rfl | exact nr_X _ _ _ _
theorem nr_sStR (k pc : Nat) (L : AL) (st : List AV) (G : AH) : isRet (sStR k pc L st G) = false := by
  unfold sStR
  repeat' split
  all_goals first | rfl | exact nr_X _ _ _ _
theorem nr_sStL (k pc : Nat) (L : AL) (st : List AV) (G : AH) : isRet (sStL k pc L st G) = false := by
  unfold sStL
  repeat' split
  all_goals first | rfl | exact nr_X _ _ _ _
theorem nr_sBin (f : Int32 → Int32 → Int32) (pc : Nat) (L : AL) (st : List AV) (G : AH) : isRet (sBin f pc L st G) = false := by
  unfold sBin
  repeat' split
  all_goals first | rfl | exact nr_X _ _ _ _
theorem nr_sBinL (f : Int64 → Int64 → Int64) (pc : Nat) (L : AL) (st : List AV) (G : AH) : isRet (sBinL f pc L st G) = false := by
  unfold sBinL
  repeat' split
  all_goals first | rfl | exact nr_X _ _ _ _
theorem nr_sShL (f : Int64 → Int32 → Int64) (pc : Nat) (L : AL) (st : List AV) (G : AH) : isRet (sShL f pc L st G) = false := by
  unfold sShL
  repeat' split
  all_goals first | rfl | exact nr_X _ _ _ _
theorem nr_sUn (f : Int32 → Int32) (pc : Nat) (L : AL) (st : List AV) (G : AH) : isRet (sUn f pc L st G) = false := by
  unfold sUn
  repeat' split
  all_goals first | rfl | exact nr_X _ _ _ _
theorem nr_sIf (c : Jvm.ClassFile.Cond) (off : Int) (pc : Nat) (L : AL) (st : List AV) (G : AH) : isRet (sIf c off pc L st G) = false := by
  unfold sIf
  repeat' split
  all_goals first | rfl | exact nr_X _ _ _ _
theorem nr_sIcmp (c : Jvm.ClassFile.Cond) (off : Int) (pc : Nat) (L : AL) (st : List AV) (G : AH) : isRet (sIcmp c off pc L st G) = false := by
  unfold sIcmp
  repeat' split
  all_goals first | rfl | exact nr_X _ _ _ _
theorem nr_sAcmp (b : Bool) (off : Int) (pc : Nat) (L : AL) (st : List AV) (G : AH) : isRet (sAcmp b off pc L st G) = false := by
  unfold sAcmp
  repeat' split
  all_goals first | rfl | exact nr_X _ _ _ _
theorem nr_sNull (b : Bool) (off : Int) (pc : Nat) (L : AL) (st : List AV) (G : AH) : isRet (sNull b off pc L st G) = false := by
  unfold sNull
  repeat' split
  all_goals first | rfl | exact nr_X _ _ _ _
theorem nr_sGet (y f pc : Nat) (L : AL) (st : List AV) (G : AH) : isRet (sGet y f pc L st G) = false := by
  unfold sGet
  repeat' split
  all_goals first | rfl | exact nr_X _ _ _ _
theorem nr_sPut (f pc : Nat) (L : AL) (st : List AV) (G : AH) : isRet (sPut f pc L st G) = false := by
  unfold sPut
  repeat' split
  all_goals first | rfl | exact nr_X _ _ _ _
theorem nr_sAI (ts : List Nat) (y pc : Nat) (L : AL) (st : List AV) (G : AH) : isRet (sAI ts y pc L st G) = false := by
  unfold sAI
  repeat' split
  all_goals first | rfl | exact nr_X _ _ _ _
theorem nr_sAJ (y pc : Nat) (L : AL) (st : List AV) (G : AH) : isRet (sAJ y pc L st G) = false := by
  unfold sAJ
  repeat' split
  all_goals first | rfl | exact nr_X _ _ _ _
theorem nr_sAR (pc : Nat) (L : AL) (st : List AV) (G : AH) : isRet (sAR pc L st G) = false := by
  unfold sAR
  repeat' split
  all_goals first | rfl | exact nr_X _ _ _ _
theorem nr_sSI (t : Nat) (f : Int32 → Int32) (ok : Int32 → Bool) (y pc : Nat) (L : AL) (st : List AV) (G : AH) : isRet (sSI t f ok y pc L st G) = false := by
  unfold sSI
  repeat' split
  all_goals first | rfl | exact nr_X _ _ _ _
theorem nr_sSB (y pc : Nat) (L : AL) (st : List AV) (G : AH) : isRet (sSB y pc L st G) = false := by
  unfold sSB
  repeat' split
  all_goals first | rfl | exact nr_X _ _ _ _ | exact nr_sSI _ _ _ _ _ _ _ _
theorem nr_sSJ (y pc : Nat) (L : AL) (st : List AV) (G : AH) : isRet (sSJ y pc L st G) = false := by
  unfold sSJ
  repeat' split
  all_goals first | rfl | exact nr_X _ _ _ _
theorem nr_sSR (pc : Nat) (L : AL) (st : List AV) (G : AH) : isRet (sSR pc L st G) = false := by
  unfold sSR
  repeat' split
  all_goals first | rfl | exact nr_X _ _ _ _
theorem nr_sLen (y pc : Nat) (L : AL) (st : List AV) (G : AH) : isRet (sLen y pc L st G) = false := by
  unfold sLen
  repeat' split
  all_goals first | rfl | exact nr_X _ _ _ _
theorem nr_sNewA (t : ArrayType) (y pc : Nat) (L : AL) (st : List AV) (G : AH) : isRet (sNewA t y pc L st G) = false := by
  unfold sNewA
  repeat' split
  all_goals first | rfl | exact nr_X _ _ _ _
theorem nr_sNewR (t pc : Nat) (L : AL) (st : List AV) (G : AH) : isRet (sNewR t pc L st G) = false := by
  unfold sNewR
  repeat' split
  all_goals first | rfl | exact nr_X _ _ _ _
theorem nr_sGrid (t t2 pc : Nat) (L : AL) (st : List AV) (G : AH) : isRet (sGrid t t2 pc L st G) = false := by
  unfold sGrid
  repeat' split
  all_goals first | rfl | exact nr_X _ _ _ _
theorem nr_sCast (y : Nat) (ts ns : List Nat) (pc : Nat) (L : AL) (st : List AV) (G : AH) : isRet (sCast y ts ns pc L st G) = false := by
  unfold sCast
  repeat' split
  all_goals first | rfl | exact nr_X _ _ _ _
theorem nr_sInst (ts ns : List Nat) (pc : Nat) (L : AL) (st : List AV) (G : AH) : isRet (sInst ts ns pc L st G) = false := by
  unfold sInst
  repeat' split
  all_goals first | rfl | exact nr_X _ _ _ _
theorem nr_sTab (d lo hi : Int) (offs : Array Int) (pc : Nat) (L : AL) (st : List AV) (G : AH) : isRet (sTab d lo hi offs pc L st G) = false := by
  unfold sTab
  repeat' split
  all_goals first | rfl | exact nr_X _ _ _ _
theorem nr_sAthrow (L : AL) (st : List AV) (G : AH) : isRet (sAthrow L st G) = false := by
  unfold sAthrow
  repeat' split
  all_goals rfl
/-- the four returns -/
def isR (i : Instr) : Bool := match i with
  | .ireturn | .lreturn | .areturn | .return_ => true
  | _ => false
theorem isR1 : isR .ireturn = true := rfl
theorem isR2 : isR .lreturn = true := rfl
theorem isR3 : isR .areturn = true := rfl
theorem isR4 : isR .return_ = true := rfl
set_option maxHeartbeats 4000000 in
theorem nr_stp {y c rk pc len : Nat} {L : AL} {st : List AV} {G : AH} {i : Instr} (h : isR i = false) : isRet (stp y c rk pc len L st G i) = false := by
  cases i
  case ireturn => exact absurd (isR1.symm.trans h) (by decide)
  case lreturn => exact absurd (isR2.symm.trans h) (by decide)
  case areturn => exact absurd (isR3.symm.trans h) (by decide)
  case return_ => exact absurd (isR4.symm.trans h) (by decide)
  all_goals first | rfl | (exact absurd (isR1.symm.trans h) (by decide)) | (exact absurd (isR2.symm.trans h) (by decide)) | (exact absurd (isR3.symm.trans h) (by decide)) | (exact absurd (isR4.symm.trans h) (by decide)) | exact nr_call _ _ _ _ _ _ _ _ | exact nr_sAthrow _ _ _ | exact nr_sLdI _ _ _ _ _ | exact nr_sLdL _ _ _ _ _ | exact nr_sLdR _ _ _ _ _ | exact nr_sStI _ _ _ _ _ | exact nr_sStR _ _ _ _ _ | exact nr_sStL _ _ _ _ _ | exact nr_sBin _ _ _ _ _ | exact nr_sBinL _ _ _ _ _ | exact nr_sShL _ _ _ _ _ | exact nr_sUn _ _ _ _ _ | exact nr_sIf _ _ _ _ _ _ | exact nr_sIcmp _ _ _ _ _ _ | exact nr_sAcmp _ _ _ _ _ _ | exact nr_sNull _ _ _ _ _ _ | exact nr_sGet _ _ _ _ _ _ | exact nr_sPut _ _ _ _ _ | exact nr_sAI _ _ _ _ _ _ | exact nr_sAJ _ _ _ _ _ | exact nr_sAR _ _ _ _ | exact nr_sSI _ _ _ _ _ _ _ _ | exact nr_sSB _ _ _ _ _ | exact nr_sSJ _ _ _ _ _ | exact nr_sSR _ _ _ _ | exact nr_sLen _ _ _ _ _ | exact nr_sNewA _ _ _ _ _ _ | exact nr_sNewR _ _ _ _ _ | exact nr_sGrid _ _ _ _ _ _ | exact nr_sCast _ _ _ _ _ _ _ | exact nr_sInst _ _ _ _ _ _ | exact nr_sTab _ _ _ _ _ _ _ _ | (unfold stp; (try dsimp only); (repeat' split); all_goals first | rfl | exact nr_call _ _ _ _ _ _ _ _ | exact nr_sAthrow _ _ _ | exact nr_sLdI _ _ _ _ _ | exact nr_sLdL _ _ _ _ _ | exact nr_sLdR _ _ _ _ _ | exact nr_sStI _ _ _ _ _ | exact nr_sStR _ _ _ _ _ | exact nr_sStL _ _ _ _ _ | exact nr_sBin _ _ _ _ _ | exact nr_sBinL _ _ _ _ _ | exact nr_sShL _ _ _ _ _ | exact nr_sUn _ _ _ _ _ | exact nr_sIf _ _ _ _ _ _ | exact nr_sIcmp _ _ _ _ _ _ | exact nr_sAcmp _ _ _ _ _ _ | exact nr_sNull _ _ _ _ _ _ | exact nr_sGet _ _ _ _ _ _ | exact nr_sPut _ _ _ _ _ | exact nr_sAI _ _ _ _ _ _ | exact nr_sAJ _ _ _ _ _ | exact nr_sAR _ _ _ _ | exact nr_sSI _ _ _ _ _ _ _ _ | exact nr_sSB _ _ _ _ _ | exact nr_sSJ _ _ _ _ _ | exact nr_sSR _ _ _ _ | exact nr_sLen _ _ _ _ _ | exact nr_sNewA _ _ _ _ _ _ | exact nr_sNewR _ _ _ _ _ | exact nr_sGrid _ _ _ _ _ _ | exact nr_sCast _ _ _ _ _ _ _ | exact nr_sInst _ _ _ _ _ _ | exact nr_sTab _ _ _ _ _ _ _ _ | contradiction)
section
variable {Z : SS0} {D : DD} {p : Program} {l : Launch} {e : Env} {R : Room} {s : State} {m : MethodId} {args : Array Value} {below : List Frame} {meth : Method} {c : Code} {Q : State → Prop} {y pc pc2 k f len : Nat} {L : AL} {st : List AV} {G : AH} {H : Heap} {locs : List Loc} {cells slots : Nat} {ls : Array Slot} {ad : Nat → Nat} {q : Nat × AL × List AV × AH}
theorem FinQ.of_MQ {v : Option AV} (S : Sim Z D ad G L st H locs ls) (hsc : ∀ w, v = some w → Scp G w) : ∀ t, MQ below (fun _ _ o t => o = .returned (v.map (cvl ad)) ∧ t.heap = H) args s cells slots (fun q => Z.s.heap.size ≤ q) t → FinQ Z D below s ad G (.inl v) G cells slots t := by
  rintro t ⟨o, h1, h2, ⟨h3, h4⟩, L0, ⟨-, h5, h6⟩, h7⟩
  exact ⟨o, h1, h2, ⟨ad, fun _ _ => rfl, by rw [h4]; exact S.1, h3, hsc⟩, h5, L0, h6, h7⟩
set_option maxHeartbeats 4000000 in
theorem ret_ok {i : Instr} {v : Option AV} {G' : AH} (C : Ctx Z p s m meth c y) (hl : lenOK i len pc = true) (hd : decode (mcode y) pc = .ok (i, len)) (hs : stp y (mcls y) (mret y) pc len L st G i = some (.inr (.inl (v, G')))) (S : Sim Z D ad G L st H locs ls) : G' = G ∧ W p l e R s m args below meth c H locs cells slots (FinQ Z D below s ad G (.inl v) G cells slots) (F0 m pc ls (st.map (cvl ad))) := by
  obtain ⟨hx, hb, hml, hW, hown, hrt, hlocks, -⟩ := C
  obtain ⟨m1, m4, m2, m3, m0⟩ := mret_rt y
  have h1 : ∀ n, (len == n) = true → len = n := fun n h => by simpa using h
  have hR : isR i = true := by
    cases h : isR i with
    | true => rfl
    | false =>
      have h9 := nr_stp (y := y) (c := mcls y) (rk := mret y) (pc := pc) (len := len) (L := L) (st := st) (G := G) h
      rw [hs] at h9
      cases h9
  cases i
  case ireturn =>
    obtain rfl := h1 1 hl
    replace hs : sIret (mret y) st G = some (.inr (.inl (v, G'))) := hs
    unfold sIret at hs
    split at hs
    · next x =>
      split at hs
      · next hk =>
        cases hs
        refine ⟨rfl, W.mono (FinQ.of_MQ (args := args) (v := some (vi x)) S (fun w hw => by cases hw; exact Scp.i)) ?_⟩
        rcases hk with hk | ⟨hk, hb1⟩
        · exact W.iret hx hb (hrt.trans (m1 hk)) (fun t ht hW => ⟨rfl, ht⟩) S.2.2.2.2 hd hlocks
        · have h9 : x = 0 ∨ x = 1 := by unfold b01 at hb1; simpa using hb1
          exact W.zret hx hb (hrt.trans (m4 hk)) (by rcases h9 with rfl | rfl <;> rfl) (fun t ht hW => ⟨rfl, ht⟩) S.2.2.2.2 hd hlocks
      · cases hs
    · cases hs
  case lreturn =>
    obtain rfl := h1 1 hl
    unfold stp at hs
    dsimp only at hs
    split at hs
    · next x =>
      split at hs
      · next hk =>
        cases hs
        refine ⟨rfl, W.mono (FinQ.of_MQ (args := args) (v := some (vl x)) S (fun w hw => by cases hw; exact Scp.l)) ?_⟩
        exact W.lret hx hb (hrt.trans (m2 hk)) (fun t ht hW => ⟨rfl, ht⟩) S.2.2.2.2 hd hlocks
      · cases hs
    · cases hs
  case areturn =>
    obtain rfl := h1 1 hl
    unfold stp at hs
    dsimp only at hs
    split at hs
    · next x =>
      split at hs
      · next hk =>
        cases hs
        refine ⟨rfl, W.mono (FinQ.of_MQ (args := args) (v := some (vr x)) S (fun w hw => by cases hw; exact S.2.2.2.1 _ List.mem_cons_self)) ?_⟩
        have hv : cvr ad x = .null ∨ ∃ a, cvr ad x = .ref a := by
          cases x with
          | none => exact Or.inl rfl
          | some r => exact Or.inr ⟨_, rfl⟩
        rcases m3 hk with ⟨n, hn⟩ | ⟨n, hn⟩
        · exact W.aret (v := cvr ad x) hx hb (hrt.trans hn) (Or.inl ⟨n, rfl⟩) hv (fun t ht hW => ⟨rfl, ht⟩) S.2.2.2.2 hd hlocks
        · exact W.aret (v := cvr ad x) hx hb (hrt.trans hn) (Or.inr ⟨n, rfl⟩) hv (fun t ht hW => ⟨rfl, ht⟩) S.2.2.2.2 hd hlocks
      · cases hs
    · cases hs
  case return_ =>
    obtain rfl := h1 1 hl
    unfold stp at hs
    dsimp only at hs
    split at hs
    · split at hs
      · next hk =>
        cases hs
        refine ⟨rfl, W.mono (FinQ.of_MQ (args := args) (v := none) S (fun w hw => by cases hw)) ?_⟩
        exact W.vret hx hb (hrt.trans (m0 hk)) (fun t ht hW => ⟨rfl, ht⟩) S.2.2.2.2 hd hlocks
      · cases hs
    · cases hs
  all_goals cases hR
end
