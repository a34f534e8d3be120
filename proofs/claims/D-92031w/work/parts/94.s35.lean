/-! soundness 35: the machine's own throws: fields, calls; what throws nothing -/
theorem sX_at {y pc t : Nat} {G : AH} {a : Nat} {G1 : AH} (h : sX y pc t G = some (.inr (.inr (.inl (a, G1))))) : thrT.contains (y, pc) = true ∧ a = hN G ∧ G1 = xcp G t := by
  unfold sX at h
  split at h
  · next hc => cases h; exact ⟨hc, rfl, rfl⟩
  · cases h
/-- which calls may meet null -/
def nvOK (q : Nat × Nat) : Bool := match decode (mcode q.1) q.2 with
  | .ok (.invokevirtual k, _) => mcls q.1 == 0 && (k == 688 || k == 691)
  | .ok (.invokeinterface k _, _) => mcls q.1 == 0 && (k == 692 || k == 697)
  | .ok (.invokestatic k, _) => mcls q.1 == 0 && k == 475
  | _ => true
theorem nv_all : thrT.all nvOK = true := by decide +kernel
theorem nv_at {y pc : Nat} (h : thrT.contains (y, pc) = true) : nvOK (y, pc) = true := List.all_eq_true.mp nv_all (y, pc) (by simpa using h)
theorem fd_any : fldT.all (fun q => objT.any (fun t => (cfT.getD t []).contains q.2)) = true := by decide +kernel
theorem fd_some {c k f : Nat} (h : fldR (kf c k) = some f) : ∃ t, t ∈ objT ∧ ∃ j, j < nf t ∧ fdOf t j = f := by
  unfold fldR at h
  cases e : fldT.find? (fun q => q.1 == kf c k) with
  | none => rw [e] at h; cases h
  | some q =>
    rw [e] at h
    have h1 : q.2 = f := by simpa using h
    have h2 := List.all_eq_true.mp fd_any q (List.mem_of_find?_eq_some e)
    obtain ⟨t, ht, h3⟩ := List.any_eq_true.mp h2
    rw [h1] at h3
    exact ⟨t, ht, (okF_obj (t := t) (f := f) h3).2⟩
section
variable {Z : SS0} {D : DD} {p : Program} {l : Launch} {e : Env} {R : Room} {s : State} {m : MethodId} {args : Array Value} {below : List Frame} {meth : Method} {c : Code} {d y pc k f len : Nat} {L : AL} {st : List AV} {G G1 : AH} {T : State} {locs : List Loc} {cells slots : Nat} {ls : Array Slot} {ad : Nat → Nat} {a : Nat}
theorem tGet (hB : Base Z D) (C : Ctx Z p s m meth c y) (hHp : Hp Z s) (hRd : RmD d R) (hsz : ls.size = c.maxLocals) (htr : e.platform.stackTraces = false) (hw : wt st ≤ 16) (S : Sim Z D ad G L st T.heap locs ls) (hR : Rm R cells slots G G1) (X : Stand p l e R s m args below meth c T locs cells slots) (hd : decode (mcode y) pc = .ok (.getfield k, 3)) (hf : fldR (kf (mcls y) k) = some f) (hs : sGet y f pc L st G = some (.inr (.inr (.inl (a, G1))))) : Thrown Z D p l e R s m args below meth c T cells slots pc ls (st.map (cvl ad)) ad G L a G1 := by
  have hdc : decode c.code pc = .ok (.getfield k, 3) := by rw [C.2.1]; exact hd
  have hW := C.2.2.2.1
  have hown := C.2.2.2.2.1
  unfold sGet at hs
  split at hs
  · split at hs
    · split at hs <;> cases hs
    · cases hs
  · next st2 =>
    obtain ⟨rfl, rfl⟩ := sX_thr hs
    obtain ⟨t, ht, j, hj, rfl⟩ := fd_some hf
    obtain ⟨cf, kf, fi, fd, kC, hi, hsl, hst, -, -, -⟩ := fld_found hB hW (args := args) ht hj
    have hstk : (F0 m pc ls ((Sum.inr (Sum.inr none) :: st2).map (cvl ad))).stack = .null :: st2.map (cvl ad) := rfl
    rcases fl_all hf with ⟨ref, hl, hsame⟩ | ⟨host, hl⟩
    · have hi' : s.fieldFound? ref (fNam (fdOf t j)) (fDsc (fdOf t j)) = some (cf, kf, fi, fd) := by
        rcases hsame with e | e
        · rw [e]; exact hi
        · exact u_same (args := args) (hB.word hW e) _ hi
      obtain ⟨vm', X', st'⟩ := X.getfieldNull C.1 hown (hB.word hW hl) hi' hst (g := F0 m pc ls ((Sum.inr (Sum.inr none) :: st2).map (cvl ad))) rfl hstk hdc
      exact Thrown.npe hB C hHp hRd hsz htr S hR X' rfl (stk1 := st2.map (cvl ad)) (by rw [wt_of]; exact wt_tl hw) st'
    · obtain ⟨vm', X', st'⟩ := X.getfieldNullNest C.1 hown (va_Nw.use rfl (va_Nw.warmF hW (va_Nw.of rfl (hB.1 _ hl)))) hi hst (g := F0 m pc ls ((Sum.inr (Sum.inr none) :: st2).map (cvl ad))) rfl hstk hdc
      exact Thrown.npe hB C hHp hRd hsz htr S hR X' rfl (stk1 := st2.map (cvl ad)) (by rw [wt_of]; exact wt_tl hw) st'
  · cases hs
theorem wt_drop : ∀ (n : Nat) (st : List AV), wt (st.drop n) ≤ wt st
  | 0, st => Nat.le_refl _
  | n + 1, [] => Nat.le_refl _
  | n + 1, v :: st => by
    refine Nat.le_trans (wt_drop n st) ?_
    rcases v with x | x | x
    · show wt st ≤ wt st + 1; omega
    · show wt st ≤ wt st + 2; omega
    · show wt st ≤ wt st + 1; omega
theorem stk_null {n : Nat} {A : List AV} (hn : n ≤ st.length) (e : (st.take n).reverse = vr none :: A) : st.map (cvl ad) = (A.map (cvl ad)).reverse ++ Value.null :: (st.drop n).map (cvl ad) ∧ A.length + 1 = n := by
  have h1 : st.map (cvl ad) = (((st.take n).reverse).map (cvl ad)).reverse ++ (st.drop n).map (cvl ad) := by
    rw [List.map_reverse, List.reverse_reverse, ← List.map_append, List.take_append_drop]
  refine ⟨?_, ?_⟩
  · rw [h1, e, List.map_cons, List.reverse_cons, List.append_assoc]
    rfl
  · have h2 : ((st.take n).reverse).length = n := by rw [List.length_reverse, List.length_take]; omega
    rw [e] at h2
    exact h2
/-- a method of a class, called on null -/
theorem tInvV {z n : Nat} {A : List AV} (h688 : k = 688 ∧ z = 283 ∨ k = 691 ∧ z = 304) (hc0 : mcls y = 0) (hB : Base Z D) (C : Ctx Z p s m meth c y) (hHp : Hp Z s) (hRd : RmD d R) (hsz : ls.size = c.maxLocals) (htr : e.platform.stackTraces = false) (hw : wt st ≤ 16) (S : Sim Z D ad G L st T.heap locs ls) (hR : Rm R cells slots G (xcp G 20)) (X : Stand p l e R s m args below meth c T locs cells slots) (hd : decode (mcode y) pc = .ok (.invokevirtual k, 3)) (hn : n = 1) (hlen : n ≤ st.length) (e1 : (st.take n).reverse = vr none :: A) : Thrown Z D p l e R s m args below meth c T cells slots pc ls (st.map (cvl ad)) ad G L (hN G) (xcp G 20) := by
  have hdc : decode c.code pc = .ok (.invokevirtual k, 3) := by rw [C.2.1]; exact hd
  have hW := C.2.2.2.1
  have hown := C.2.2.2.2.1
  rw [hc0] at hown
  obtain ⟨hstk, hA⟩ := stk_null (ad := ad) hlen e1
  have hA0 : A = [] := List.eq_nil_of_length_eq_zero (by omega)
  subst hA0
  have key : ∃ (x : MethodName) (C0 : String), Cond.methodLink (cnm 0) k x ∈ lw_all ∧ x = mnm z ∧ Cond.instanceMethod x ∈ lw_all ∧ Cond.selects C0 x x ∈ lw_all ∧ okX x 0 ∧ 0 < z ∧ z < 357 := by
    rcases h688 with ⟨rfl, rfl⟩ | ⟨rfl, rfl⟩
    · exact ⟨_, _, q1625, rfl, q1626, q1627, ⟨⟨by decide, by decide⟩, by decide +kernel⟩, by decide, by decide⟩
    · exact ⟨_, _, q1651, rfl, q1652, q1691, ⟨⟨by decide, by decide⟩, by decide +kernel⟩, by decide, by decide⟩
  obtain ⟨x, C0, hl, rfl, hinst, hsel, hok, z0, z1⟩ := key
  obtain ⟨mk, methM, hnamed, hmethM, hstM, habM⟩ := Cond.instanceMethod_spec (hB.word (args := args) hW hinst)
  obtain ⟨mk', methM', cM, hnamed', hmethM', -, -, -, -, -, -, hsigM⟩ := mf_at (s := s) hB hW z0 z1
  cases hnamed.symm.trans hnamed'
  cases hmethM.symm.trans hmethM'
  obtain ⟨c2, r2, m2, q1, q2, q3, q4, kP, hkP, hkPi⟩ := Cond.selects_spec (hB.word (args := args) hW hsel)
  cases hnamed.symm.trans q3
  obtain ⟨vm', X', st'⟩ := X.invokevirtualNull C.1 hown (hB.word hW hl) hnamed hmethM hstM hkP hkPi hok.1 (g := F0 m pc ls (st.map (cvl ad))) rfl (argsL := []) (rest := (st.drop n).map (cvl ad)) (hok.len hsigM) hstk hdc
  exact Thrown.npe hB C hHp hRd hsz htr S hR X' rfl (stk1 := (st.drop n).map (cvl ad)) (by rw [wt_of]; exact Nat.le_trans (wt_drop n st) hw) st'
theorem tInvF {n cnt : Nat} {A : List AV} (h692 : k = 692 ∨ k = 697) (hc0 : mcls y = 0) (hB : Base Z D) (C : Ctx Z p s m meth c y) (hHp : Hp Z s) (hRd : RmD d R) (hsz : ls.size = c.maxLocals) (htr : e.platform.stackTraces = false) (hw : wt st ≤ 16) (S : Sim Z D ad G L st T.heap locs ls) (hR : Rm R cells slots G (xcp G 20)) (X : Stand p l e R s m args below meth c T locs cells slots) (hd : decode (mcode y) pc = .ok (.invokeinterface k cnt, 5)) (hn : n = 1) (hlen : n ≤ st.length) (e1 : (st.take n).reverse = vr none :: A) : Thrown Z D p l e R s m args below meth c T cells slots pc ls (st.map (cvl ad)) ad G L (hN G) (xcp G 20) := by
  have hdc : decode c.code pc = .ok (.invokeinterface k cnt, 5) := by rw [C.2.1]; exact hd
  have hW := C.2.2.2.1
  have hal := hW.alike
  have hown := C.2.2.2.2.1
  rw [hc0] at hown
  obtain ⟨hstk, hA⟩ := stk_null (ad := ad) hlen e1
  have hA0 : A = [] := List.eq_nil_of_length_eq_zero (by omega)
  subst hA0
  have key : ∃ x : MethodName, Cond.methodLink (cnm 0) k x ∈ lw_all ∧ Cond.declares x ∈ lw_tbl ∧ Cond.interfaceMethod x.cls x.cls x.name x.desc ∈ lw_tbl ∧ okX x 0 := by
    rcases h692 with rfl | rfl
    · exact ⟨_, q1710, q1712, q1711, ⟨⟨by decide, by decide⟩, by decide +kernel⟩⟩
    · exact ⟨_, q1747, q1749, q1748, ⟨⟨by decide, by decide⟩, by decide +kernel⟩⟩
  obtain ⟨x, hl, hdecl, hface, hok⟩ := key
  obtain ⟨r0, r, hn0, hrm, hstR, hsigR⟩ := Cond.declares_spec (va_Nw.warmD hW (va_Nw.of rfl (hB.1 _ hdecl)))
  obtain ⟨rz, rzm, hnz, hrzm, -, -⟩ := Cond.declares_spec (hB.1 _ hdecl)
  have hface' : (Cond.interfaceMethod x.cls x.cls x.name x.desc).before args s = true := va_tabs rfl (rfl : (Z.s.setVm s.vm).vm = s.vm) (by rw [Cond.interfaceMethod_setVm hal (r := rz) hnz hok.1]; exact hB.1 _ hface)
  obtain ⟨cL, kL, r1, hcL, hkL, hiL, hfoundL, hn1⟩ := Cond.interfaceMethod_spec hface'
  cases hn0.symm.trans hn1
  have hr0cls : r0.cls = cL := Option.some.inj ((findClass_of_methodNamed hn0).symm.trans hcL)
  obtain ⟨vm', X', st'⟩ := X.invokeinterfaceNull C.1 hown (hB.word hW hl) hn0 hrm hstR (by rw [hr0cls]; exact hkL) hiL hok.1 (g := F0 m pc ls (st.map (cvl ad))) rfl (argsL := []) (rest := (st.drop n).map (cvl ad)) (hok.len hsigR) hstk hdc
  exact Thrown.npe hB C hHp hRd hsz htr S hR X' rfl (stk1 := (st.drop n).map (cvl ad)) (by rw [wt_of]; exact Nat.le_trans (wt_drop n st) hw) st'
end
/-! what throws nothing -/
def isTh (r : Option SR) : Bool := match r with
  | some (.inr (.inr (.inl _))) => true
  | _ => false
def thI (i : Instr) : Bool := match i with
  | .getfield _ | .iaload | .baload | .saload | .laload | .iastore | .bastore | .sastore | .lastore | .arraylength | .newarray _ | .checkcast _ | .invokestatic _ | .invokespecial _ | .invokevirtual _ | .invokeinterface .. | .athrow => true
  | _ => false
theorem nt_sLdI (k pc : Nat) (L : AL) (st : List AV) (G : AH) : isTh (sLdI k pc L st G) = false := by
  unfold sLdI
  repeat' split
  all_goals rfl
theorem nt_sLdL (k pc : Nat) (L : AL) (st : List AV) (G : AH) : isTh (sLdL k pc L st G) = false := by
  unfold sLdL
  repeat' split
  all_goals rfl
theorem nt_sLdR (k pc : Nat) (L : AL) (st : List AV) (G : AH) : isTh (sLdR k pc L st G) = false := by
  unfold sLdR
  repeat' split
  all_goals rfl
theorem nt_sStI (k pc : Nat) (L : AL) (st : List AV) (G : AH) : isTh (sStI k pc L st G) = false := by
  unfold sStI
  repeat' split
  all_goals rfl
theorem nt_sStR (k pc : Nat) (L : AL) (st : List AV) (G : AH) : isTh (sStR k pc L st G) = false := by
  unfold sStR
  repeat' split
  all_goals rfl
theorem nt_sStL (k pc : Nat) (L : AL) (st : List AV) (G : AH) : isTh (sStL k pc L st G) = false := by
  unfold sStL
  repeat' split
  all_goals rfl
theorem nt_sBin (f : Int32 → Int32 → Int32) (pc : Nat) (L : AL) (st : List AV) (G : AH) : isTh (sBin f pc L st G) = false := by
  unfold sBin
  repeat' split
  all_goals rfl
theorem nt_sBinL (f : Int64 → Int64 → Int64) (pc : Nat) (L : AL) (st : List AV) (G : AH) : isTh (sBinL f pc L st G) = false := by
  unfold sBinL
  repeat' split
  all_goals rfl
theorem nt_sShL (f : Int64 → Int32 → Int64) (pc : Nat) (L : AL) (st : List AV) (G : AH) : isTh (sShL f pc L st G) = false := by
  unfold sShL
  repeat' split
  all_goals rfl
theorem nt_sUn (f : Int32 → Int32) (pc : Nat) (L : AL) (st : List AV) (G : AH) : isTh (sUn f pc L st G) = false := by
  unfold sUn
  repeat' split
  all_goals rfl
theorem nt_sIf (c : Jvm.ClassFile.Cond) (off : Int) (pc : Nat) (L : AL) (st : List AV) (G : AH) : isTh (sIf c off pc L st G) = false := by
  unfold sIf
  repeat' split
  all_goals rfl
theorem nt_sIcmp (c : Jvm.ClassFile.Cond) (off : Int) (pc : Nat) (L : AL) (st : List AV) (G : AH) : isTh (sIcmp c off pc L st G) = false := by
  unfold sIcmp
  repeat' split
  all_goals rfl
theorem nt_sAcmp (b : Bool) (off : Int) (pc : Nat) (L : AL) (st : List AV) (G : AH) : isTh (sAcmp b off pc L st G) = false := by
  unfold sAcmp
  repeat' split
  all_goals rfl
theorem nt_sNull (b : Bool) (off : Int) (pc : Nat) (L : AL) (st : List AV) (G : AH) : isTh (sNull b off pc L st G) = false := by
  unfold sNull
  repeat' split
  all_goals rfl
theorem nt_sPut (f pc : Nat) (L : AL) (st : List AV) (G : AH) : isTh (sPut f pc L st G) = false := by
  unfold sPut
  repeat' split
  all_goals rfl
theorem nt_sAR (pc : Nat) (L : AL) (st : List AV) (G : AH) : isTh (sAR pc L st G) = false := by
  unfold sAR
  repeat' split
  all_goals rfl
theorem nt_sSR (pc : Nat) (L : AL) (st : List AV) (G : AH) : isTh (sSR pc L st G) = false := by
  unfold sSR
  repeat' split
  all_goals rfl
theorem nt_sNewR (t pc : Nat) (L : AL) (st : List AV) (G : AH) : isTh (sNewR t pc L st G) = false := by
  unfold sNewR
  repeat' split
  all_goals rfl
theorem nt_sGrid (t t2 pc : Nat) (L : AL) (st : List AV) (G : AH) : isTh (sGrid t t2 pc L st G) = false := by
  unfold sGrid
  repeat' split
  all_goals rfl
theorem nt_sInst (ts ns : List Nat) (pc : Nat) (L : AL) (st : List AV) (G : AH) : isTh (sInst ts ns pc L st G) = false := by
  unfold sInst
  repeat' split
  all_goals rfl
theorem nt_sTab (d lo hi : Int) (offs : Array Int) (pc : Nat) (L : AL) (st : List AV) (G : AH) : isTh (sTab d lo hi offs pc L st G) = false := by
  unfold sTab
  repeat' split
  all_goals rfl
theorem nt_sIret (rk : Nat) (st : List AV) (G : AH) : isTh (sIret rk st G) = false := by
  unfold sIret
  repeat' split
  all_goals rfl
set_option maxHeartbeats 8000000 in
theorem nt_stp {y c rk pc len : Nat} {L : AL} {st : List AV} {G : AH} {i : Instr} (h : thI i = false) : isTh (stp y c rk pc len L st G i) = false := by
  cases i
  all_goals first | rfl | (cases (show true = false from h)) | exact nt_sLdI _ _ _ _ _ | exact nt_sLdL _ _ _ _ _ | exact nt_sLdR _ _ _ _ _ | exact nt_sStI _ _ _ _ _ | exact nt_sStR _ _ _ _ _ | exact nt_sStL _ _ _ _ _ | exact nt_sBin _ _ _ _ _ | exact nt_sBinL _ _ _ _ _ | exact nt_sShL _ _ _ _ _ | exact nt_sUn _ _ _ _ _ | exact nt_sIf _ _ _ _ _ _ | exact nt_sIcmp _ _ _ _ _ _ | exact nt_sAcmp _ _ _ _ _ _ | exact nt_sNull _ _ _ _ _ _ | exact nt_sPut _ _ _ _ _ | exact nt_sAR _ _ _ _ | exact nt_sSR _ _ _ _ | exact nt_sNewR _ _ _ _ _ | exact nt_sGrid _ _ _ _ _ _ | exact nt_sInst _ _ _ _ _ _ | exact nt_sTab _ _ _ _ _ _ _ _ | exact nt_sIret _ _ _ | (unfold stp; (try dsimp only); (repeat' split); all_goals first | rfl | exact nt_sLdI _ _ _ _ _ | exact nt_sLdL _ _ _ _ _ | exact nt_sLdR _ _ _ _ _ | exact nt_sStI _ _ _ _ _ | exact nt_sStR _ _ _ _ _ | exact nt_sStL _ _ _ _ _ | exact nt_sBin _ _ _ _ _ | exact nt_sBinL _ _ _ _ _ | exact nt_sShL _ _ _ _ _ | exact nt_sUn _ _ _ _ _ | exact nt_sIf _ _ _ _ _ _ | exact nt_sIcmp _ _ _ _ _ _ | exact nt_sAcmp _ _ _ _ _ _ | exact nt_sNull _ _ _ _ _ _ | exact nt_sPut _ _ _ _ _ | exact nt_sAR _ _ _ _ | exact nt_sSR _ _ _ _ | exact nt_sNewR _ _ _ _ _ | exact nt_sGrid _ _ _ _ _ _ | exact nt_sInst _ _ _ _ _ _ | exact nt_sTab _ _ _ _ _ _ _ _ | exact nt_sIret _ _ _ | contradiction)
