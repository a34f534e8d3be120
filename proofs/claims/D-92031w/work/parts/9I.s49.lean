/-! soundness 49: the claim out of what the abstract machine answers -/
def R_law : String := "HeardPlacesLaw"
def lw_P (b : Addr) (xs : List Int32) (args : Array Value) (s : State) : Prop := args = #[.ref b] ∧ s.IntsAt b xs ∧ xs.length ≤ 384 ∧ (Jvm.Cond.and given_1 narrow_1).before args s = true ∧ MRg s.vm
def lw_Q (_ : Array Value) (s : State) (o : Outcome) (t : State) : Prop := o = .returned (some (.int 1)) ∧ Framed s o t [] 603072 7262314
def lw_Z (below : List Frame) (a : Array Value) (s : State) : State → Prop := fun t => ∃ o, t.status = .running ∧ Ended t below o ∧ lw_Q a s o t
def lw_At (p : Program) (s : State) (m : MethodId) (meth : Method) (c : Code) (b L : Nat) (xs : Nat → Int32) : Prop :=
  p.tables.exec = Jvm.exec ∧ c.code = code ∧ meth.sig.returnType = ret ∧ c.maxLocals = 4 ∧ s.vm.findClass R_law = some m.cls ∧ (∀ w ∈ lw_tbl, w.before #[Value.ref b] s = true) ∧ va_X b L xs s s.heap ∧ b < s.heap.size ∧ meth.locks = false ∧ (Jvm.Cond.and given_1 narrow_1).before #[Value.ref b] s = true ∧ MRg s.vm ∧ HTb c 0
theorem law_ctx : mcode 0 = code ∧ mmax 0 = 4 ∧ cnm (mcls 0) = R_law ∧ mrt 0 = ret ∧ minit 0 = false ∧ hhT 0 = [] := ⟨rfl, rfl, by decide +kernel, by decide +kernel, by decide +kernel, rfl⟩
/-- a cell that is new is no place that was there -/
theorem drop_new {s s' : State} {J : List Loc} {k n : Nat} (h : s.sameButNew s' J k n) (hJ : ∀ x ∈ J, s.heap.size ≤ x.base) : s.sameButNew s' [] k n := by
  obtain ⟨h1, h2, h3, h4, h5, h6⟩ := h
  refine ⟨h1, h2, h3, h4, h5, fun a c hc => ?_⟩
  obtain ⟨c', g1, g2, g3, g4⟩ := h6 a c hc
  refine ⟨c', g1, g2, g3, fun i _ => g4 i fun hm => ?_⟩
  have := hJ _ hm
  have h7 := (Array.getElem?_eq_some_iff.mp hc).1
  exact absurd this (Nat.not_le.mpr h7)
theorem whole_start (hlaw : LawOK) {p : Program} {e : Env} {s : State} {m : MethodId} {below : List Frame} {meth : Method} {c : Code} (l : Launch) (hl0 : l.stackTraces = false) {b L : Nat} {xs : Nat → Int32} (hL : L ≤ 384) (C0 : lw_At p s m meth c b L xs) : W p l e room_1 s m #[Value.ref b] below meth c s.heap [] 0 0 (lw_Z below #[Value.ref b] s) (entryFrame m ([Value.ref b] : List Value).toArray 4) := by
  obtain ⟨hx, hcode, hret, hml, hown, hts, hX, hbl, hlocks, hgv, hMR, hH⟩ := C0
  obtain ⟨k1, k2, k3, k4, k5, k6⟩ := law_ctx
  obtain ⟨e0, m0, D, hB, hbe⟩ := base_of hts hX hbl hL hgv
  obtain ⟨G', hcl, hc1, hs1⟩ := hlaw L xs hL
  obtain ⟨n, hn⟩ := At_of hcl
  let ad : Nat → Nat := fun r => if r = 0 then b else if r = 1 then e0 else m0
  have hn : ex n 1000 0 0 (entry 4 [vr (some 0)]) [] (G0 L xs) = some (.inl (some (vi 1)), G') := by rw [← k2]; exact hn
  have hCo : Conc (s, b, e0, m0, L, xs) D ad (G0 L xs) s.heap := by
    refine ⟨fun a h1 h2 => absurd h2 (Nat.not_lt.mpr h1), ?_, fun a h1 h2 => absurd h2 (Nat.not_lt.mpr h1), fun a i r h => (by cases h), Nat.le_refl _, ⟨rfl, rfl, fun i hi => rfl, rfl, rfl, rfl⟩, ⟨rfl, rfl, rfl⟩, Nat.le_refl _, fun _ _ => rfl⟩
    intro a a' h1 h2 n1 n2 hh
    have h1 : a < 3 := h1
    have h2 : a' < 3 := h2
    rcases (show a = 0 ∨ a = 1 by omega) with q | q <;> rcases (show a' = 0 ∨ a' = 1 by omega) with q' | q' <;> subst q <;> subst q'
    · rfl
    · exact absurd hh hbe
    · exact absurd hh.symm hbe
    · rfl
  have S : Sim (s, b, e0, m0, L, xs) D ad (G0 L xs) (entry 4 [vr (some 0)]) [] s.heap [] ((lg_sl (([vr (some 0)] : List AV).map (cvl ad)) ++ List.replicate (4 - (lg_sl (([vr (some 0)] : List AV).map (cvl ad))).length) Slot.unset).toArray) := by
    refine ⟨hCo, entry_LR ad (by decide), ?_, fun v hv => (by cases hv), fun q hq => (by cases hq)⟩
    intro i v h r hr
    subst hr
    rcases i with _ | _ | _ | _ | i
    · cases h; exact show 0 < 3 by decide
    · cases h
    · cases h
    · cases h
    · cases h
  have hctx : Ctx (s, b, e0, m0, L, xs) p s m meth c 0 := ⟨hx, by rw [k1]; exact hcode, by rw [k2]; exact hml, State.WarmedH.refl s, by rw [k3]; exact hown, by rw [k4]; exact hret, hlocks, fun h => by rw [k5] at h; cases h⟩
  have hE : ExoOK (s, b, e0, m0, L, xs) D l := exo_all hB (xin_all hB hl0) (mul_all hB)
  have hT : ThrOK (s, b, e0, m0, L, xs) D l := thr_all hB hl0 (cast_th hB hMR) (copy_th hB)
  have hW := snd_all hB hE hT n (p := p) (e := e) (R := room_1) (args := #[Value.ref b]) (below := below) (cells := 0) (slots := 0) hn (by decide) hctx (fun _ _ => rfl) hH ⟨by decide, by decide⟩ (by rw [k2]; rfl) S ⟨by rw [Nat.zero_add]; exact Nat.le_trans hc1 (Nat.le_add_right _ _), by rw [Nat.zero_add]; exact Nat.le_trans hs1 (Nat.le_add_right _ _)⟩
  rw [lg_entry_eq]
  refine W.mono (fun t ht => ?_) hW
  obtain ⟨oc, a1, a2, ⟨ad', b1, b2, b3, b4⟩, a4, J, a5, a6⟩ := ht
  subst b3
  exact ⟨_, a1, a2, rfl, ⟨_, rfl⟩, a4, drop_new (a5.mono (by show 0 + (hC G' - 0) ≤ _; omega) (by show 0 + (hS G' - 0) ≤ _; omega)) a6⟩
set_option maxHeartbeats 4000000 in
theorem lw_walk (hlaw : LawOK) (l : Launch) (hl0 : l.stackTraces = false) (b : Addr) (xs : List Int32) : MetFree l x (headSpec (Jvm.Cond.code x code maxLocals ret :: tables_1) room_1) (lw_P b xs) (fun _ _ _ _ _ => True) lw_Q := by
  refine MetFree.of_bodyS (code := code) (maxLocals := maxLocals) (ret := ret) (by decide) ?_ ?_
  · intro args s m h hn
    obtain ⟨meth, c, h1, h2, h3, h4, h5, h6, -, -⟩ := Cond.code_spec hn (atoms_spec (ws := Jvm.Cond.code x code maxLocals ret :: tables_1) h _ List.mem_cons_self)
    exact ⟨meth, c, h1, h2, h3, h4, h5, h6⟩
  · intro p e s m args below meth c s₁ B hml0 hP _
    obtain ⟨rfl, hx, hbd, hgv, hMR⟩ := hP
    obtain ⟨scr, harrAt, hlist, hof, hsmall⟩ := hx
    obtain ⟨hcb, hkn, -, -⟩ := State.arrayAt?_spec harrAt
    have hown : s.vm.findClass R_law = some m.cls := findClass_of_methodNamed B.named
    have hts0 : ∀ c ∈ (Jvm.Cond.code x code maxLocals ret :: tables_1), c.before #[Value.ref b] s = true := atoms_spec (ws := Jvm.Cond.code x code maxLocals ret :: tables_1) B.pre
    have hts : ∀ w ∈ lw_tbl, w.before #[Value.ref b] s = true := k2_hts_sels lw_privs (fun w hw => hts0 w (List.mem_cons_of_mem _ hw)) lw_privs_ok
    have hml : c.maxLocals = 4 := B.maxLocals_eq (hts0 _ List.mem_cons_self)
    have X₀ : Stand p l e room_1 s m #[Value.ref b] below meth c s₁ [] 0 0 := Stand.of_body B
    have hh0 : s₁.heap = s.heap := by rw [B.state]; rfl
    have hsz : scr.slots.size = xs.length := by rw [← Array.length_toList, hlist, List.length_map]
    have hval : ∀ j : Nat, j < xs.length → scr.slots[j]? = some (.int (xs.getD j 0)) := fun j hj => by
      rw [← Array.getElem?_toList, hlist]
      simp [hj]
    have hbl : b < s.heap.size := (Array.getElem?_eq_some_iff.mp hcb).1
    have hX : va_X b xs.length (fun j => xs.getD j 0) s s.heap := ⟨scr, hcb, hof, hkn, hsz, hval⟩
    have hHT : HTb c 0 := by
      obtain ⟨meth2, c2, h1, h2, h3, h4, h5, h6, h7, -⟩ := Cond.code_spec B.named (hts0 _ List.mem_cons_self)
      cases h1.symm.trans X₀.method
      cases h2.symm.trans X₀.code
      unfold HTb
      rw [law_ctx.2.2.2.2.2, Array.isEmpty_iff.mp h7]
      rfl
    have K : W p l e room_1 s m #[Value.ref b] below meth c s₁.heap [] 0 0 (lw_Z below #[Value.ref b] s) (entryFrame m ([Value.ref b] : List Value).toArray 4) := by
      rw [hh0]
      exact whole_start hlaw l hl0 hbd ⟨B.exec, B.bytes, B.returns, hml, hown, hts, hX, hbl, B.notSynchronized, hgv, hMR, hHT⟩
    obtain ⟨t, a1, o, b1, b2, b3⟩ := K s₁ rfl X₀
    exact ⟨t, o, a1, b1, b2, b3⟩
theorem lw_pre_spec {args : Array Value} {s : State} (h : (Jvm.Cond.and given_1 narrow_1).before args s = true) (hr : rest_1_c.before args s = true) (hm : modulesRight_1 s = true) : ∃ (b : Addr) (xs : List Int32), lw_P b xs args s := by
  have hs := flat_of_before _ h
  have hq := flat_of_before _ hr
  have hc : (Cond.count 1).before args s = true := hs _ (by decide +kernel)
  have harr : (Cond.arrayOf (.arg 0) .int).before args s = true := hs _ (by decide +kernel)
  have hle : (Cond.le (.length (.arg 0)) (.int 384)).before args s = true := hs _ (by decide +kernel)
  have hlen : (Cond.isInt (.length (.arg 0))).before args s = true := hq _ (by decide +kernel)
  have hall : (Cond.all (.arg 0) (.isInt (.elem (.arg 0) (.index 0)))).before args s = true := hq _ (by decide +kernel)
  obtain ⟨b, xs, hb, hx⟩ := State.ints_of_pre rfl harr hlen hall
  have hsm : xs.length < 2 ^ 31 := hx.choose_spec.2.2.2
  have hev : (Term.length (.arg 0)).eval args s none [] s = some (.int xs.length.toInt32) := hx.length_eval hb
  have hv := Cond.le_ints hev (show (Term.int 384).eval args s none [] s = some (.int 384) from rfl)
  have hd : xs.length.toInt32 ≤ 384 := by
    simpa [Cond.before, Cond.holds, hv] using hle
  have hN : xs.length ≤ 384 := (Int32.ofNat_le_ofNat hsm (by decide)).mp (show Int32.ofNat xs.length ≤ Int32.ofNat 384 from hd)
  exact ⟨b, xs, Cond.one_arg hc (show args[0]? = some (.ref b) from hb), hx, hN, h, MRg.of hm⟩
theorem lw_comes (hlaw : LawOK) (l : Launch) (hl0 : l.stackTraces = false) : Comes l x (Jvm.Cond.code x code maxLocals ret :: tables_1) room_1 (fun tb e args s => Calls_1 tb e args s ∧ rest_1 tb e args s ∧ Pre_1 tb e args s)
    (fun _ _ args s o t => lw_Q args s o t) := by
  intro p e ha hc hk s m args below hf hfit hheap happ hpre
  obtain ⟨b, xs, hP⟩ := lw_pre_spec hpre.2.2 hpre.2.1.1 hpre.2.1.2
  obtain ⟨k, o, h1, h2, h3, hQ⟩ := lw_walk hlaw l hl0 b xs p e ha hc hk s m args below hf ((Spec.applies_iff_loose hf).mp happ).1 hP trivial
  exact ⟨k, o, h1, h2, h3, hQ⟩
theorem lw_frame {s t : State} {o : Outcome} {args : Array Value} (h : Framed s o t [] 603072 7262314) :
    Framed s o t (fieldLocs frame_1_writes args s ++ arrayLocs frame_1_arrays args s ++ staticLocs frame_1_statics s) 603072 7262314 := h
theorem lw_limb (hlaw : LawOK) (L : Cond) (hL : ∀ (args : Array Value) (s t : State), L.after args s (.returned (some (.int 1))) t = true) :
    ArmFor flags0 classFile x code maxLocals ret World_1 tables_1 room_1 Calls_1 rest_1 Pre_1
      (fun tb e a s o t => postC L tb e a s o t ∧ Framed s o t (fieldLocs frame_1_writes a s ++ arrayLocs frame_1_arrays a s ++ staticLocs frame_1_statics s) 603072 7262314) := by
  intro l hfl _ _ p e ha hc hk s m args below hf hfit hheap happ hpre
  have hl0 : l.stackTraces = false := by unfold Launch.stackTraces; rw [hfl]; decide +kernel
  obtain ⟨k, o, h1, h2, h3, rfl, hF⟩ := lw_comes hlaw l hl0 p e ha hc hk s m args below hf hfit hheap happ hpre
  exact ⟨k, _, h1, h2, h3, hL args s _, lw_frame hF⟩
theorem claim_of (hlaw : LawOK) : Claimed_1_1 ∧ Claimed_1_2 := ⟨lw_limb hlaw limb_1_1 (fun args s t => by simp [limb_1_1, Cond.after, Cond.holds, Cond.value]), lw_limb hlaw limb_1_2 (fun args s t => Cond.after_iff.mpr (by
  first | (rw [show limb_1_2 = Cond.eq .result (.int 1) from rfl, Cond.eq_ints (x := 1) (y := 1) rfl rfl]; simp; done) | (simp [limb_1_2, Cond.value, Term.eval]; done)))⟩
