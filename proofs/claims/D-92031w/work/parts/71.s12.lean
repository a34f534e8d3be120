/-! soundness 12: every step that goes on, but for calls, grids and class constants -/
theorem cvr_rf (ad : Nat → Nat) (o : Option Nat) : cvr ad o = va_rf (o.map ad) := by cases o <;> rfl
section
variable {Z : SS0} {D : DD} {p : Program} {l : Launch} {e : Env} {R : Room} {s : State} {m : MethodId} {args : Array Value} {below : List Frame} {meth : Method} {c : Code} {Q : State → Prop} {y pc pc2 k f len : Nat} {L : AL} {st : List AV} {G : AH} {H : Heap} {locs : List Loc} {cells slots : Nat} {ls : Array Slot} {ad : Nat → Nat} {q : Nat × AL × List AV × AH}
theorem ref_eq (hc : Conc Z D ad G H) {x z : Option Nat} (hok : acOK x z = true) (hx : Scp G (vr x)) (hz : Scp G (vr z)) : x.map ad = z.map ad ↔ x = z := by
  constructor
  · intro h
    unfold acOK at hok
    simp only [Bool.or_eq_true, decide_eq_true_eq, Bool.and_eq_true] at hok
    rcases hok with hok | ⟨h1, h2⟩
    · exact hok
    cases x with
    | none => cases z with
      | none => rfl
      | some r => cases h
    | some a => cases z with
      | none => cases h
      | some r =>
        have : ad a = ad r := by simpa using h
        rw [hc.2.1 a r (hx a rfl) (hz r rfl) (fun q => h1 (by rw [q])) (fun q => h2 (by rw [q])) this]
  · intro h; rw [h]
theorem gAcmp {k0 : ACond} {off : Int} (C : Ctx Z p s m meth c y) (hj : jOK pc off = true) (hd : decode (mcode y) pc = .ok (.if_acmp k0 off, 3)) (hs : sAcmp (aeq k0) off pc L st G = some (.inl q)) (S : Sim Z D ad G L st H locs ls) (K : Nx Z D p l e R s m args below meth c Q cells slots ad G q) : W p l e R s m args below meth c H locs cells slots Q (F0 m pc ls (st.map (cvl ad))) := by
  obtain ⟨hx, hb, -⟩ := C
  unfold sAcmp at hs
  split at hs
  · next z x st2 =>
    by_cases hok : acOK x z = true
    case neg => rw [if_neg hok] at hs; cases hs
    rw [if_pos hok] at hs
    have hS : Sim Z D ad G L st2 H locs ls := S.sub fun w hw => S.2.2.2.1 w (List.mem_cons_of_mem _ (List.mem_cons_of_mem _ hw))
    have he := ref_eq S.1 (x := x) (z := z) hok (S.2.2.2.1 _ (List.mem_cons_of_mem _ List.mem_cons_self)) (S.2.2.2.1 _ List.mem_cons_self)
    have ht := jOK_eq hj
    show W p l e R s m args below meth c H locs cells slots Q (F0 m pc ls (cvr ad z :: cvr ad x :: st2.map (cvl ad)))
    rw [cvr_rf, cvr_rf]
    cases k0 with
    | eq =>
      refine lv_acmp_eq hx hb hd ht (fun h => ?_) (fun h => ?_)
      · rw [if_pos (by simpa [aeq] using he.mp h)] at hs
        cases hs
        exact Nx.same K hS
      · rw [if_neg (fun w => h (he.mpr (by simpa [aeq] using w)))] at hs
        cases hs
        exact Nx.same K hS
    | ne =>
      refine lv_acmp_ne hx hb hd ht (fun h => ?_) (fun h => ?_)
      · rw [if_pos (by simpa [aeq] using fun w => h (he.mpr w))] at hs
        cases hs
        exact Nx.same K hS
      · rw [if_neg (by simpa [aeq] using he.mp h)] at hs
        cases hs
        exact Nx.same K hS
  · cases hs
theorem gNull {off : Int} (C : Ctx Z p s m meth c y) (hj : jOK pc off = true) (hd : decode (mcode y) pc = .ok (.ifnull off, 3)) (hs : sNull true off pc L st G = some (.inl q)) (S : Sim Z D ad G L st H locs ls) (K : Nx Z D p l e R s m args below meth c Q cells slots ad G q) : W p l e R s m args below meth c H locs cells slots Q (F0 m pc ls (st.map (cvl ad))) := by
  obtain ⟨hx, hb, -⟩ := C
  unfold sNull at hs
  split at hs
  · next x st2 =>
    have hS : Sim Z D ad G L st2 H locs ls := S.sub fun w hw => S.2.2.2.1 w (List.mem_cons_of_mem _ hw)
    cases x with
    | none => cases hs; exact lv_ifnullN hx hb hd (jOK_eq hj) (Nx.same K hS)
    | some r => cases hs; exact lv_ifnull hx hb hd (Nx.same K hS)
  · cases hs
theorem gNonnull {off : Int} (C : Ctx Z p s m meth c y) (hj : jOK pc off = true) (hd : decode (mcode y) pc = .ok (.ifnonnull off, 3)) (hs : sNull false off pc L st G = some (.inl q)) (S : Sim Z D ad G L st H locs ls) (K : Nx Z D p l e R s m args below meth c Q cells slots ad G q) : W p l e R s m args below meth c H locs cells slots Q (F0 m pc ls (st.map (cvl ad))) := by
  obtain ⟨hx, hb, -⟩ := C
  unfold sNull at hs
  split at hs
  · next x st2 =>
    have hS : Sim Z D ad G L st2 H locs ls := S.sub fun w hw => S.2.2.2.1 w (List.mem_cons_of_mem _ hw)
    cases x with
    | none => cases hs; exact lv_ifnonnullN hx hb hd (Nx.same K hS)
    | some r => cases hs; exact lv_ifnonnull hx hb hd (jOK_eq hj) (Nx.same K hS)
  · cases hs
/-- the instructions that are shown elsewhere -/
def exo (c : Nat) (i : Instr) : Bool := match i with
  | .invokestatic _ | .invokespecial _ | .invokevirtual _ | .invokeinterface .. | .multianewarray .. | .getstatic _ => true
  | .ldc k => c == 30 && k == 110
  | _ => false
set_option maxHeartbeats 4000000 in
theorem go_ok {i : Instr} (hB : Base Z D) (C : Ctx Z p s m meth c y) (hex : exo (mcls y) i = false) (hl : lenOK i len pc = true) (hd : decode (mcode y) pc = .ok (i, len)) (hs : stp y (mcls y) (mret y) pc len L st G i = some (.inl q)) (S : Sim Z D ad G L st H locs ls) (hR : Rm R cells slots G q.2.2.2) (K : Nx Z D p l e R s m args below meth c Q cells slots ad G q) : W p l e R s m args below meth c H locs cells slots Q (F0 m pc ls (st.map (cvl ad))) := by
  have hx := C.1
  have hb := C.2.1
  have hW := C.2.2.2.1
  have hown := C.2.2.2.2.1
  have h1 : ∀ n, (len == n) = true → len = n := fun n h => by simpa using h
  have h3 : ∀ {off : Int}, (len == 3 && jOK pc off) = true → len = 3 ∧ jOK pc off = true := fun h => by simpa using h
  cases i
  case iload_n k => obtain rfl := h1 1 hl; exact gLdI hs S K fun x hk kk => lv_iload_n hx hb hd rfl hk kk
  case iload k => obtain rfl := h1 2 hl; exact gLdI hs S K fun x hk kk => lv_iload hx hb hd hk kk
  case lload_n k => obtain rfl := h1 1 hl; exact gLdL hs S K fun x hk kk => lv_lload_n hx hb hd rfl hk kk
  case lload k => obtain rfl := h1 2 hl; exact gLdL hs S K fun x hk kk => lv_lload hx hb hd hk kk
  case aload_n k =>
    obtain rfl := h1 1 hl
    refine gLdR hs S K fun v hv hk kk => ?_
    rcases hv with rfl | ⟨a, rfl⟩
    · exact lv_aload_nN hx hb hd rfl hk kk
    · exact lv_aload_n hx hb hd rfl hk kk
  case aload k =>
    obtain rfl := h1 2 hl
    refine gLdR hs S K fun v hv hk kk => ?_
    rcases hv with rfl | ⟨a, rfl⟩
    · exact lv_aloadN hx hb hd hk kk
    · exact lv_aload hx hb hd hk kk
  case istore_n k => obtain rfl := h1 1 hl; exact gStI hs S K fun x rest hk kk => lv_istore_n hx hb hd rfl S.2.1.has hk rfl kk
  case istore k => obtain rfl := h1 2 hl; exact gStI hs S K fun x rest hk kk => lv_istore hx hb hd S.2.1.has hk rfl kk
  case lstore_n k => obtain rfl := h1 1 hl; exact gStL hs S K fun x rest hk kk => lv_lstore_n hx hb hd rfl S.2.1.has hk rfl kk
  case lstore k => obtain rfl := h1 2 hl; exact gStL hs S K fun x rest hk kk => lv_lstore hx hb hd S.2.1.has hk rfl kk
  case astore_n k =>
    obtain rfl := h1 1 hl
    refine gStR hs S K fun v rest hv hk kk => ?_
    rcases hv with rfl | ⟨a, rfl⟩
    · exact lv_astore_nN hx hb hd rfl S.2.1.has hk rfl kk
    · exact lv_astore_n hx hb hd rfl S.2.1.has hk rfl kk
  case astore k =>
    obtain rfl := h1 2 hl
    refine gStR hs S K fun v rest hv hk kk => ?_
    rcases hv with rfl | ⟨a, rfl⟩
    · exact lv_astoreN hx hb hd S.2.1.has hk rfl kk
    · exact lv_astore hx hb hd S.2.1.has hk rfl kk
  case iinc k n => obtain rfl := h1 3 hl; exact gIinc C hd hs S K
  case iconst n => obtain rfl := h1 1 hl; exact gPushI hs S K fun kk => lv_iconst hx hb hd rfl kk
  case bipush n => obtain rfl := h1 2 hl; exact gPushI hs S K fun kk => lv_bipush hx hb hd rfl kk
  case sipush n => obtain rfl := h1 3 hl; exact gPushI hs S K fun kk => lv_sipush hx hb hd rfl kk
  case lconst n => obtain rfl := h1 1 hl; exact gPushL hs S K fun kk => lv_lconst hx hb hd rfl kk
  case aconst_null => obtain rfl := h1 1 hl; cases hs; exact lv_null hx hb hd (Nx.same K (S.push (v := vr none) Scp.n fun w hw => List.mem_cons.mp hw))
  case ldc k =>
    obtain rfl := h1 2 hl
    have hne : ¬ (mcls y = 30 ∧ k = 110) := by
      have : (mcls y == 30 && k == 110) = false := hex
      simpa using this
    replace hs : (match constR (kf (mcls y) k) with | some v => sGo (pc + 2) L (vi v :: st) G | none => none) = some (.inl q) := by
      have h9 : (if mcls y = 30 ∧ k = 110 then _ else _) = _ := hs
      rw [if_neg hne] at h9
      exact h9
    split at hs
    · next v hv => exact gPushI hs S K fun kk => lv_ldc hx hb hown (hB.word hW (ck_all hv)) hd kk
    · cases hs
  case ldc_w k =>
    obtain rfl := h1 3 hl
    replace hs : (match constR (kf (mcls y) k) with | some v => sGo (pc + 3) L (vi v :: st) G | none => none) = some (.inl q) := hs
    split at hs
    · next v hv => exact gPushI hs S K fun kk => lv_ldcw hx hb hown (hB.word hW (ck_all hv)) hd kk
    · cases hs
  case ldc2_w k =>
    obtain rfl := h1 3 hl
    replace hs : (match constJR (kf (mcls y) k) with | some v => sGo (pc + 3) L (vl v :: st) G | none => none) = some (.inl q) := hs
    split at hs
    · next v hv => exact gPushL hs S K fun kk => lv_ldc2 hx hb hown (hB.word hW (cj_all hv)) hd kk
    · cases hs
  case dup =>
    obtain rfl := h1 1 hl
    unfold stp at hs
    dsimp only at hs
    split at hs
    · cases hs; exact lv_dup hx hb hd rfl (Nx.same K (S.sub fun w hw => S.2.2.2.1 w (by rcases List.mem_cons.mp hw with h | h; rw [h]; exact List.mem_cons_self; exact h)))
    · next x st2 => cases hs; exact lv_dup hx hb hd (by cases x <;> rfl) (Nx.same K (S.sub fun w hw => S.2.2.2.1 w (by rcases List.mem_cons.mp hw with h | h; rw [h]; exact List.mem_cons_self; exact h)))
    · cases hs
  case pop =>
    obtain rfl := h1 1 hl
    unfold stp at hs
    dsimp only at hs
    split at hs
    · cases hs; exact lv_pop hx hb hd rfl (Nx.same K (S.sub fun w hw => S.2.2.2.1 w (List.mem_cons_of_mem _ hw)))
    · next x st2 => cases hs; exact lv_pop hx hb hd (by cases x <;> rfl) (Nx.same K (S.sub fun w hw => S.2.2.2.1 w (List.mem_cons_of_mem _ hw)))
    · cases hs
  case dup_x1 =>
    obtain rfl := h1 1 hl
    unfold stp at hs
    dsimp only at hs
    split at hs
    · next x z st2 =>
      cases hs
      exact lv_dup_x1 hx hb hd rfl (by cases z <;> rfl) (Nx.same K (S.sub fun w hw => S.2.2.2.1 w (by
        simp only [List.mem_cons] at hw ⊢
        rcases hw with h | h | h | h
        · exact Or.inl h
        · exact Or.inr (Or.inl h)
        · exact Or.inl h
        · exact Or.inr (Or.inr h))))
    · next x z st2 =>
      cases hs
      exact lv_dup_x1 hx hb hd (by cases x <;> rfl) (by cases z <;> rfl) (Nx.same K (S.sub fun w hw => S.2.2.2.1 w (by
        simp only [List.mem_cons] at hw ⊢
        rcases hw with h | h | h | h
        · exact Or.inl h
        · exact Or.inr (Or.inl h)
        · exact Or.inl h
        · exact Or.inr (Or.inr h))))
    · cases hs
  case dup2 =>
    obtain rfl := h1 1 hl
    unfold stp at hs
    dsimp only at hs
    split at hs
    · next x z st2 =>
      cases hs
      exact lv_dup2_11 hx hb hd rfl (by cases z <;> rfl) (Nx.same K (S.sub fun w hw => S.2.2.2.1 w (by
        simp only [List.mem_cons] at hw ⊢
        rcases hw with h | h | h | h | h
        · exact Or.inl h
        · exact Or.inr (Or.inl h)
        · exact Or.inl h
        · exact Or.inr (Or.inl h)
        · exact Or.inr (Or.inr h))))
    · cases hs
  case iadd => obtain rfl := h1 1 hl; exact gBin hs S K fun x z rest kk => lv_iadd hx hb hd kk
  case isub => obtain rfl := h1 1 hl; exact gBin hs S K fun x z rest kk => lv_isub hx hb hd kk
  case imul => obtain rfl := h1 1 hl; exact gBin hs S K fun x z rest kk => lv_imul hx hb hd kk
  case iand => obtain rfl := h1 1 hl; exact gBin hs S K fun x z rest kk => lv_iand hx hb hd kk
  case ior => obtain rfl := h1 1 hl; exact gBin hs S K fun x z rest kk => lv_ior hx hb hd kk
  case ixor => obtain rfl := h1 1 hl; exact gBin hs S K fun x z rest kk => lv_ixor hx hb hd kk
  case ishl => obtain rfl := h1 1 hl; exact gBin hs S K fun x z rest kk => lv_ishl hx hb hd kk
  case ishr => obtain rfl := h1 1 hl; exact gBin hs S K fun x z rest kk => lv_ishr hx hb hd kk
  case iushr => obtain rfl := h1 1 hl; exact gBin hs S K fun x z rest kk => lv_iushr hx hb hd rfl kk
  case idiv =>
    obtain rfl := h1 1 hl
    unfold stp at hs
    dsimp only at hs
    split at hs
    · next z x st2 =>
      split at hs
      · cases hs
      · next hz =>
        cases hs
        exact lv_idiv hx hb hd hz (Nx.same K (S.sub fun w hw => by
          rcases List.mem_cons.mp hw with e | e
          · rw [e]; exact Scp.i
          · exact S.2.2.2.1 w (List.mem_cons_of_mem _ (List.mem_cons_of_mem _ e))))
    · cases hs
  case irem =>
    obtain rfl := h1 1 hl
    unfold stp at hs
    dsimp only at hs
    split at hs
    · next z x st2 =>
      split at hs
      · cases hs
      · next hz =>
        cases hs
        exact lv_irem hx hb hd hz (Nx.same K (S.sub fun w hw => by
          rcases List.mem_cons.mp hw with e | e
          · rw [e]; exact Scp.i
          · exact S.2.2.2.1 w (List.mem_cons_of_mem _ (List.mem_cons_of_mem _ e))))
    · cases hs
  case ineg => obtain rfl := h1 1 hl; exact gUn hs S K fun x rest kk => lv_ineg hx hb hd kk
  case i2b => obtain rfl := h1 1 hl; exact gUn hs S K fun x rest kk => lv_i2b hx hb hd rfl kk
  case i2s => obtain rfl := h1 1 hl; exact gUn hs S K fun x rest kk => lv_i2s hx hb hd rfl kk
  case i2l =>
    obtain rfl := h1 1 hl
    unfold stp at hs
    dsimp only at hs
    split at hs
    · next x st2 =>
      cases hs
      exact lv_i2l hx hb hd rfl (Nx.same K (S.sub fun w hw => by
        rcases List.mem_cons.mp hw with e | e
        · rw [e]; exact Scp.l
        · exact S.2.2.2.1 w (List.mem_cons_of_mem _ e)))
    · cases hs
  case l2i =>
    obtain rfl := h1 1 hl
    unfold stp at hs
    dsimp only at hs
    split at hs
    · next x st2 =>
      cases hs
      exact lv_l2i hx hb hd rfl (Nx.same K (S.sub fun w hw => by
        rcases List.mem_cons.mp hw with e | e
        · rw [e]; exact Scp.i
        · exact S.2.2.2.1 w (List.mem_cons_of_mem _ e)))
    · cases hs
  case ladd => obtain rfl := h1 1 hl; exact gBinL hs S K fun x z rest kk => lv_ladd hx hb hd kk
  case lsub => obtain rfl := h1 1 hl; exact gBinL hs S K fun x z rest kk => lv_lsub hx hb hd kk
  case lmul => obtain rfl := h1 1 hl; exact gBinL hs S K fun x z rest kk => lv_lmul hx hb hd kk
  case land => obtain rfl := h1 1 hl; exact gBinL hs S K fun x z rest kk => lv_land hx hb hd kk
  case lor => obtain rfl := h1 1 hl; exact gBinL hs S K fun x z rest kk => lv_lor hx hb hd kk
  case lxor => obtain rfl := h1 1 hl; exact gBinL hs S K fun x z rest kk => lv_lxor hx hb hd kk
  case lshl => obtain rfl := h1 1 hl; exact gShL hs S K fun x z rest kk => lv_lshl hx hb hd rfl kk
  case lshr => obtain rfl := h1 1 hl; exact gShL hs S K fun x z rest kk => lv_lshr hx hb hd rfl kk
  case lushr => obtain rfl := h1 1 hl; exact gShL hs S K fun x z rest kk => lv_lushr hx hb hd rfl kk
  case lcmp =>
    obtain rfl := h1 1 hl
    unfold stp at hs
    dsimp only at hs
    split at hs
    · next z x st2 =>
      cases hs
      exact W.lcmp hx hb hd (Nx.same K (S.sub fun w hw => by
        rcases List.mem_cons.mp hw with e | e
        · rw [e]; exact Scp.i
        · exact S.2.2.2.1 w (List.mem_cons_of_mem _ (List.mem_cons_of_mem _ e))))
    · cases hs
  case ifCond k off => obtain ⟨rfl, hj⟩ := h3 hl; exact gIf C hj hd hs S K
  case if_icmp k off => obtain ⟨rfl, hj⟩ := h3 hl; exact gIcmp C hj hd hs S K
  case if_acmp k off => obtain ⟨rfl, hj⟩ := h3 hl; exact gAcmp C hj hd hs S K
  case ifnull off => obtain ⟨rfl, hj⟩ := h3 hl; exact gNull C hj hd hs S K
  case ifnonnull off => obtain ⟨rfl, hj⟩ := h3 hl; exact gNonnull C hj hd hs S K
  case goto off => obtain ⟨rfl, hj⟩ := h3 hl; cases hs; exact lv_goto hx hb hd (jOK_eq hj) (Nx.same K S)
  case tableswitch d lo hi offs => exact gTab C hl hd hs S K
  case getfield k =>
    obtain rfl := h1 3 hl
    replace hs : (match fldR (kf (mcls y) k) with | some f => sGet y f pc L st G | none => none) = some (.inl q) := hs
    split at hs
    · next f hf => exact gGet hB C (fl_all hf) hd hs S K
    · cases hs
  case putfield k =>
    obtain rfl := h1 3 hl
    replace hs : (match fldR (kf (mcls y) k) with | some f => if pfOK y f = true then sPut f pc L st G else none | none => none) = some (.inl q) := hs
    split at hs
    · next f hf =>
      split at hs
      · next hp => exact gPut hB C (fl_all hf) hp hd hs S K
      · cases hs
    · cases hs
  case iaload => obtain rfl := h1 1 hl; exact gAI hs S K fun j a rest ha ht hin kk => gIald hB C hd S.1 ha (by simpa using ht) hin kk
  case baload => obtain rfl := h1 1 hl; exact gAI hs S K fun j a rest ha ht hin kk => gBald hB C hd S.1 ha (by simpa using ht) hin kk
  case saload => obtain rfl := h1 1 hl; exact gAI hs S K fun j a rest ha ht hin kk => gSald hB C hd S.1 ha (by simpa using ht) hin kk
  case laload => obtain rfl := h1 1 hl; exact gAJ hB C hd hs S K
  case aaload => obtain rfl := h1 1 hl; exact gAR hB C hd hs S K
  case iastore =>
    obtain rfl := h1 1 hl
    exact gSI (by decide) hs S K fun x j a rest ha ht hok hin kk => W.iast hx hb (S.1.arrAt ha (by rw [ht]; decide)) (by rw [ht]; exact (hB.arr hW (t := 40) (by decide)).1 _ _) (fun q => by cases q) (by rw [arrV_size]; exact inb_in hin) rfl rfl hd kk
  case sastore =>
    obtain rfl := h1 1 hl
    exact gSI (by decide) hs S K fun x j a rest ha ht hok hin kk => W.sast hx hb (S.1.arrAt ha (by rw [ht]; decide)) (by rw [ht]; exact (hB.arr hW (t := 43) (by decide)).1 _ _) (fun q => by cases q) (by rw [arrV_size]; exact inb_in hin) rfl rfl hd kk
  case bastore =>
    obtain rfl := h1 1 hl
    replace hs : sSB y pc L st G = some (.inl q) := hs
    unfold sSB at hs
    split at hs
    · next x j a st2 =>
      split at hs
      · refine gSI (by decide) hs S K fun x j a rest ha ht hok hin kk => W.zast hx hb (S.1.arrAt ha (by rw [ht]; decide)) (by rw [ht]; exact (hB.arr hW (t := 44) (by decide)).1 _ _) (fun q => by cases q) (by rw [arrV_size]; exact inb_in hin) rfl rfl hd ?_
        have h9 : x = 0 ∨ x = 1 := by unfold b01 at hok; simpa using hok
        have h8 : narrow .boolean (.int x) = .int (id x) := by rcases h9 with rfl | rfl <;> rfl
        rw [h8]
        exact kk
      · exact gSI (by decide) hs S K fun x j a rest ha ht hok hin kk => W.bast hx hb (S.1.arrAt ha (by rw [ht]; decide)) (by rw [ht]; exact (hB.arr hW (t := 42) (by decide)).1 _ _) (fun q => by cases q) (by rw [arrV_size]; exact inb_in hin) rfl rfl hd kk
    · cases hs
  case lastore => obtain rfl := h1 1 hl; exact gSJ hB C hd hs S K
  case aastore => obtain rfl := h1 1 hl; exact gSR hB C hd hs S K
  case arraylength => obtain rfl := h1 1 hl; exact gLen hB C hd hs S K
  case newarray t => obtain rfl := h1 2 hl; exact gNewA hB C hd hs S hR K
  case anewarray k =>
    obtain rfl := h1 3 hl
    replace hs : (match clsR (kf (mcls y) k) with | some t => if newR.contains t = true then sNewR (if t = 13 then 53 else if t = 1 then 54 else 50) pc L st G else none | none => none) = some (.inl q) := hs
    split at hs
    · next t ht =>
      split at hs
      · next hk => exact gNewR hB C hd ht hk hs S hR K
      · cases hs
    · cases hs
  case new k =>
    obtain rfl := h1 3 hl
    replace hs : (match clsR (kf (mcls y) k) with | some t => if newC.contains t = true then sGo (pc + 3) L (vr (some (hN G)) :: st) (mkx G t 0 1 (nsl t)) else none | none => none) = some (.inl q) := hs
    split at hs
    · next t ht =>
      split at hs
      · next hk => exact gNew hB C hd ht hk hs S hR K
      · cases hs
    · cases hs
  case checkcast k =>
    obtain rfl := h1 3 hl
    replace hs : (match clsR (kf (mcls y) k) with | some t => if castK.contains t = true then sCast y (castTo t) (castNo t) pc L st G else none | none => none) = some (.inl q) := hs
    split at hs
    · next t ht =>
      split at hs
      · next hk => exact gCast hB C hd ht hk hs S K
      · cases hs
    · cases hs
  case instanceof k =>
    obtain rfl := h1 3 hl
    replace hs : (match clsR (kf (mcls y) k) with | some t => if castK.contains t = true then sInst (castTo t) (castNo t) pc L st G else none | none => none) = some (.inl q) := hs
    split at hs
    · next t ht =>
      split at hs
      · next hk => exact gInst hB C hd ht hk hs S K
      · cases hs
    · cases hs
  case athrow =>
    replace hs : sAthrow L st G = some (.inl q) := hs
    unfold sAthrow at hs
    split at hs
    · split at hs <;> cases hs
    · cases hs
  case ireturn =>
    replace hs : sIret (mret y) st G = some (.inl q) := hs
    unfold sIret at hs
    split at hs
    · split at hs <;> cases hs
    · cases hs
  case lreturn =>
    unfold stp at hs
    dsimp only at hs
    split at hs
    · split at hs <;> cases hs
    · cases hs
  case areturn =>
    unfold stp at hs
    dsimp only at hs
    split at hs
    · split at hs <;> cases hs
    · cases hs
  case return_ =>
    unfold stp at hs
    dsimp only at hs
    split at hs
    · split at hs <;> cases hs
    · cases hs
  case invokestatic => cases hex
  case invokespecial => cases hex
  case invokevirtual => cases hex
  case invokeinterface => cases hex
  case multianewarray => cases hex
  case getstatic => cases hex
  all_goals cases hs
end
