/-! soundness 47: a copy that fails -/
section
variable {p : Program} {l : Launch} {e : Env} {R : Room} {s : State} {m : MethodId} {args : Array Value} {below : List Frame} {meth : Method} {c : Code} {T : State} {locs : List Loc} {cells slots : Nat}
theorem nat_thr (X : Stand p l e R s m args below meth c T locs cells slots) (hexec : p.tables.exec = Jvm.exec) {own : String} {index : Nat} (hown : s.vm.findClass own = some m.cls) (hlink : (Cond.methodLink own index arraycopyName).before args s = true) (hnat : (Cond.native arraycopyName).before args s = true) (hstat : (Cond.static arraycopyName).before args s = true) (hinit : (Cond.initialized "java/lang/System").before args s = true)
    {v1 v2 : Value} {i j n : Int32} (hv1 : v1.isRef = true) (hv2 : v2.isRef = true) {g : JFrame} (hg : g.method = m) (hsize : g.locals.size = c.maxLocals) {rest : List Value} (hstack : g.stack = .int n :: .int j :: v2 :: .int i :: v1 :: rest) (hdg : decode c.code g.pc = .ok (.invokestatic index, 3)) (hframes : 1 ≤ R.frames) (hlocals : 2 * g.monitorRoom + (rest.map fun v => v.category).sum + (nativeFrameWords "java/lang/System" "arraycopy" 5 + 11) ≤ R.locals)
    {cls : String} {msg : Option String} (hw : ∀ (s' : State), s'.heap = T.heap → s.vm.Alike s'.vm → ∀ (E : CtlPost), (∀ acts', E (.throwNew cls msg) acts' s') → wp (Native.java_lang_System.arraycopy.sem #[v1, .int i, v2, .int j, .int n]) (fun _ _ _ _ => False) E e false [] s') :
    ∃ (vm' : Vm) (nf : NFrame), Stand p l e R s m args below meth c (T.setVm vm') locs cells slots ∧ Frame.words (.native nf) = 0 ∧ nf.awaiting = false ∧ nf.locked = none ∧ ∀ target, Steps p.tables e below ((T.setVm vm').setFrames (.throwNew cls msg none :: .native nf :: .java { g with stack := rest } :: below)) target → Steps p.tables e below (T.setTop g) target := by
  obtain ⟨r, kS, methS, hnS, hmS, hkS, N⟩ := NativeOf.of_static hnat hstat (ps := [.object "java/lang/Object", .int, .object "java/lang/Object", .int, .int]) (ret := none) (by decide +kernel)
  have hinitS : kS.init = .initialized := Cond.initialized_spec (findClass_of_methodNamed hnS) hkS hinit
  obtain ⟨vm', X', step⟩ := X.invokestatic hexec hown hlink hnS hmS N.static hkS hinitS (by decide) hg (argsL := [v1, .int i, v2, .int j, .int n]) (rest := rest) (by rw [N.sig]; rfl) hstack hdg
  subst hg
  have hA' : s.vm.Alike vm' := X'.warmed.alike
  obtain ⟨kS', N'⟩ := N.alike hA'
  refine ⟨vm', { method := r, args := seenByNative methS #[v1, .int i, v2, .int j, .int n], locked := none }, X', rfl, rfl, rfl, fun target hrest => step target fun acts => ?_⟩
  have hseen : seenByNative methS #[v1, .int i, v2, .int j, .int n] = #[v1, .int i, v2, .int j, .int n] := by
    cases v1 <;> simp [Value.isRef] at hv1 <;> cases v2 <;> simp [Value.isRef] at hv2 <;> simp [seenByNative, N.static, N.sig, narrow]
  have hfull := X'.notFull (g := { g with stack := rest }) hsize (vars := nativeFrameWords "java/lang/System" "arraycopy" 5) hframes hlocals
  have hopw : operandWords (#[v1, .int i, v2, .int j, .int n] : Array Value).toList = 5 := by
    cases v1 <;> simp [Value.isRef] at hv1 <;> cases v2 <;> simp [Value.isRef] at hv2 <;> rfl
  have hm' : ((T.setVm vm').setTop { g with stack := rest }).vm.method? r = some methS := by
    show vm'.method? r = some methS
    simp [Vm.method?, N'.cls, N'.meth]
  have hfe := frames_entered (g := { g with stack := rest }) X'.here.top (.native { method := r, args := seenByNative methS #[v1, .int i, v2, .int j, .int n], locked := none })
  obtain ⟨mid, hmid⟩ := X'.here.above
  have htl := X'.tail
  rw [show ([v1, .int i, v2, .int j, .int n] : List Value).toArray = #[v1, .int i, v2, .int j, .int n] from rfl]
  rw [(Fast.doInvoke_native (s := (T.setVm vm').setTop { g with stack := rest }) (e := e) (acts := acts) (args := #[v1, .int i, v2, .int j, .int n]) hm' N'.native N'.noCode N'.noLock (by
    have h1 : ((((T.setVm vm').setTop { g with stack := rest }).vm.classes[r.cls]?).map (·.name)).getD "" = "java/lang/System" := by
      show ((vm'.classes[r.cls]?).map (·.name)).getD "" = _
      rw [N'.cls]
      exact N'.className
    rw [h1, N'.name, hopw]
    exact hfull)).1]
  have hcurN : ((T.setVm vm').setTop { g with stack := rest }).cur < ((T.setVm vm').setTop { g with stack := rest }).threads.size := by
    obtain ⟨g₀, hfr⟩ := X'.frames_eq
    exact State.cur_lt_of_frames (State.frames_setTop _ hfr)
  refine Steps.head ⟨X'.here.running, by simpa using X'.here.runnable, by simpa using X'.here.alone⟩ ⟨[.native { method := r, args := seenByNative methS #[v1, .int i, v2, .int j, .int n], locked := none }, .java { g with stack := rest }], by rw [hfe, htl]; rfl, by simp, by simp⟩ ?_
  rw [stepThread_native (f := { method := r, args := seenByNative methS #[v1, .int i, v2, .int j, .int n], locked := none }) (k := kS') (x := methS) (row := arraycopyRow) hfe N'.cls N'.meth N'.boot (by rw [N'.className, N'.name, N'.desc]; exact arraycopy_row p) rfl]
  have hfin : (((T.setVm vm').setTop { g with stack := rest }).pushFrame (.native { method := r, args := seenByNative methS #[v1, .int i, v2, .int j, .int n], locked := none })).pushFrame (.throwNew cls msg none) = (T.setVm vm').setFrames (.throwNew cls msg none :: .native { method := r, args := seenByNative methS #[v1, .int i, v2, .int j, .int n], locked := none } :: .java { g with stack := rest } :: below) := by
    obtain ⟨g₀, hfr⟩ := X'.frames_eq
    rw [State.pushFrame, hfe, htl]
    show (State.setFrames (State.setFrames _ _) _) = _
    rw [State.setFrames_setFrames, State.setTop_of_frames _ hfr, State.setFrames_setFrames]
  have hw1 : wpRun (arraycopyRow.sem (seenByNative methS #[v1, .int i, v2, .int j, .int n])) (fun _ _ _ => False) (fun x s₁ _ => x = .throwNew cls msg ∧ s₁ = ((T.setVm vm').setTop { g with stack := rest }).pushFrame (.native { method := r, args := seenByNative methS #[v1, .int i, v2, .int j, .int n], locked := none })) e (((T.setVm vm').setTop { g with stack := rest }).pushFrame (.native { method := r, args := seenByNative methS #[v1, .int i, v2, .int j, .int n], locked := none })) := by
    have hsm : arraycopyRow.sem (seenByNative methS #[v1, .int i, v2, .int j, .int n]) = Native.java_lang_System.arraycopy.sem #[v1, .int i, v2, .int j, .int n] := by rw [hseen, arraycopyRow_sem]
    rw [hsm]
    exact hw (((T.setVm vm').setTop { g with stack := rest }).pushFrame (.native { method := r, args := seenByNative methS #[v1, .int i, v2, .int j, .int n], locked := none })) rfl hA' _ (fun _ => ⟨rfl, rfl⟩)
  have hw2 := (wpRun_iff_run _ _ _ _ _).mp hw1
  cases hr : (arraycopyRow.sem (seenByNative methS #[v1, .int i, v2, .int j, .int n])).run e (((T.setVm vm').setTop { g with stack := rest }).pushFrame (.native { method := r, args := seenByNative methS #[v1, .int i, v2, .int j, .int n], locked := none })) with
  | ok v s₁ acts₁ => rw [hr] at hw2; exact hw2.elim
  | ctl x s₁ acts₁ =>
    rw [hr] at hw2
    cases x <;> first
      | exact hw2.elim
      | (obtain ⟨h1, h2⟩ := hw2; cases h1; subst h2; rw [← hfin] at hrest; exact hrest)
      | (obtain ⟨h1, -⟩ := hw2; cases h1)
end
/-- the kind of an array of any tag -/
def atyx (t : Nat) : FieldType := if t = 45 then .int else if t = 55 then .object "java/lang/Object" else aty t
section
variable {Z : SS0} {D : DD} {p : Program} {l : Launch} {e : Env} {R : Room} {s : State} {m : MethodId} {args : Array Value} {below : List Frame} {meth : Method} {c : Code} {d y pc k : Nat} {L : AL} {st : List AV} {G : AH} {H : Heap} {T T1 U : State} {locs L1 : List Loc} {cells slots : Nat} {ls : Array Slot} {ad : Nat → Nat} {stk : List Value}
theorem Conc.anyarr (hB : Base Z D) (hW : Z.s.WarmedH s.vm) (hc : Conc Z D ad G H) {r : Nat} (hr : r < hN G) (h1 : 40 ≤ hT G r) (h2 : hT G r < 60) : ∃ cell : Cell, H[ad r]? = some cell ∧ s.isArrayOf cell (atyx (hT G r)) ∧ (hT G r ≠ 55 → cell.slots.size = hL G r ∧ hL G r < 2 ^ 31) := by
  obtain ⟨o1, o2, o3, o4, o5, o6⟩ := hc.2.2.2.2.2.1
  obtain ⟨d0, d1, d2⟩ := hc.2.2.2.2.2.2.1
  have c9 := hc.2.2.2.2.2.2.2.2
  rcases Nat.lt_or_ge r 3 with q | q
  · obtain ⟨-, -, -, -, -, ⟨hX, x9⟩, x6, x7, x8, ⟨cellE, y1, y2, y3, y4, y5, y6⟩, -⟩ := hB
    rcases (show r = 0 ∨ r = 1 ∨ r = 2 by omega) with e | e | e
    · subst e
      obtain ⟨scr, x1, x2, x3, x4, x5⟩ := va_X.moved hW.alike hX
      refine ⟨scr, by rw [d0, c9 _ x6]; exact x1, ?_, fun _ => ⟨by rw [o2]; exact x4, by rw [o2]; exact x9⟩⟩
      rw [o1]
      exact x2
    · subst e
      refine ⟨cellE, by rw [d1, c9 _ x7]; exact y1, ?_, fun h => absurd o4 h⟩
      rw [o4]
      exact State.isArrayOf_alike hW.alike y6
    · subst e
      rw [o6] at h2
      exact absurd h2 (by decide)
  · have hm : hT G r ∈ arrTg := by
      rcases (hc.1 r q hr).2.2.2 with h | h | h
      · exact absurd h1 (Nat.not_le.mpr ((show ∀ t ∈ objT, t < 40 by decide) _ h))
      · exact h
      · exact absurd h1 (Nat.not_le.mpr ((show ∀ t ∈ excT, t < 40 by decide) _ h))
    refine ⟨_, hc.arrAt hr hm, ?_, fun _ => ⟨arrV_size _ _ _, ?_⟩⟩
    · have : atyx (hT G r) = aty (hT G r) := (show ∀ t ∈ arrTg, atyx t = aty t by decide) _ hm
      rw [this]
      exact (hB.arr hW hm).1 _ _
    · have := ((hc.1 r q hr).2.1 hm).2
      omega
/-- behind the native method: the exception over the java frame -/
theorem nat_out {base' : List Frame} {nf : NFrame} {g : JFrame} {a : Addr} (X : Stand p l e R s m args below meth c U locs cells slots) (n1 : nf.awaiting = false) (n2 : nf.locked = none) : Steps p.tables e below (U.setFrames (.throwing a :: .native nf :: .java g :: below)) ((U.setTop g).pushFrame (.throwing a)) := by
  refine ov_nat (ov_of X [.native nf, .java g]) rfl ⟨[.java g], rfl⟩ n1 n2 ?_
  obtain ⟨g₁, hfr⟩ := X.frames_eq
  rw [State.pushFrame, State.frames_setTop _ hfr, State.setTop_of_frames _ hfr, State.setFrames_setFrames]
  exact Steps.refl _
theorem Thrown.npeN {g1 : List Value} {nf : NFrame} (hB : Base Z D) (C : Ctx Z p s m meth c y) (hHp : Hp Z s) (hRd : RmD d R) (hsz : ls.size = c.maxLocals) (htr : e.platform.stackTraces = false) (S : Sim Z D ad G L st T.heap locs ls) (hR : Rm R cells slots G (xcp G 20)) (X : Stand p l e R s m args below meth c T1 locs cells slots) (hT1 : T1.heap = T.heap) (hw : (g1.map fun v => v.category).sum ≤ 16) (hnf : Frame.words (.native nf) = 0) (n1 : nf.awaiting = false) (n2 : nf.locked = none)
    (hst : ∀ target, Steps p.tables e below (T1.setFrames (.throwNew "java/lang/NullPointerException" none none :: .native nf :: .java (F0 m pc ls g1) :: below)) target → Steps p.tables e below (T.setTop (F0 m pc ls stk)) target) : Thrown Z D p l e R s m args below meth c T cells slots pc ls stk ad G L (hN G) (xcp G 20) := by
  have r1 : 9 < R.frames := Nat.lt_of_lt_of_le (by omega) hRd.1
  have r2 := rm_big hRd.2 hw
  have hR1 : cells + (hC G + 64) ≤ R.cells + hC G := hR.1
  have hR2 : slots + (hS G + 20000) ≤ R.slots + hS G := hR.2
  obtain ⟨U, L1, XU, a1, a2, a3, ⟨cell, b1, b2, b3⟩, a5⟩ := npe_ov X C.1 htr hB C.2.2.2.1 hHp (fun q hq => by rw [hT1]; exact S.1.2.2.2.2.2.2.2.2 q hq) (g := F0 m pc ls g1) hsz hnf r1 (by rw [F0_mr]; exact r2) (rm_c hR1 (by decide)) (rm_c hR2 (by decide))
  rw [hT1] at a1 a2 a3 b1 a5
  exact Thrown.mk' (t := 20) hB C.2.2.2.1 S (by decide) XU a1 (Nat.le_refl _) (by omega) a3 b1 b2 b3 (fun h => absurd h (by decide)) (by decide) (by decide) (hst _ (a5.trans (nat_out (base' := []) XU n1 n2)))
theorem Thrown.msgN {t : Nat} {text : String} {g1 : List Value} {nf : NFrame} (ht : t ∈ msgT) (hB : Base Z D) (C : Ctx Z p s m meth c y) (hHp : Hp Z s) (hRd : RmD d R) (hsz : ls.size = c.maxLocals) (htr : e.platform.stackTraces = false) (S : Sim Z D ad G L st T.heap locs ls) (hR : Rm R cells slots G (xcp G t)) (htext : (text == notModelled) = false) (htb : (stringBytes (stringToUtf16 text)).size ≤ 10000) (X : Stand p l e R s m args below meth c T1 locs cells slots) (hT1 : T1.heap = T.heap) (hw : (g1.map fun v => v.category).sum ≤ 16) (hnf : Frame.words (.native nf) = 0) (n1 : nf.awaiting = false) (n2 : nf.locked = none)
    (hst : ∀ target, Steps p.tables e below (T1.setFrames (.throwNew (cnm t) (some text) none :: .native nf :: .java (F0 m pc ls g1) :: below)) target → Steps p.tables e below (T.setTop (F0 m pc ls stk)) target) : Thrown Z D p l e R s m args below meth c T cells slots pc ls stk ad G L (hN G) (xcp G t) := by
  have r1 : 9 < R.frames := Nat.lt_of_lt_of_le (by omega) hRd.1
  have r2 := rm_big hRd.2 hw
  have hR1 : cells + (hC G + 64) ≤ R.cells + hC G := hR.1
  have hR2 : slots + (hS G + 20000) ≤ R.slots + hS G := hR.2
  obtain ⟨U, L1, XU, a1, a2, a3, ⟨cell, b1, b2, b3, b4, b5, b6, b7⟩, a5⟩ := msg_ov X C.1 htr hB C.2.2.2.1 hHp (fun q hq => by rw [hT1]; exact S.1.2.2.2.2.2.2.2.2 q hq) ht htext htb (g := F0 m pc ls g1) hsz hnf r1 (by rw [F0_mr]; exact r2) (rm_c hR1 (by decide)) (rm_c hR2 (by decide))
  rw [hT1] at a1 a2 a3 b1 a5
  have hex : t ∈ excT := (show ∀ t ∈ msgT, t ∈ excT by decide) t ht
  exact Thrown.mk' hB C.2.2.2.1 S hex XU a1 (by omega) (by omega) a3 b1 b2 b3 (fun _ => ⟨b4, b5, b6, b7 _ (slotIs_moved C.2.2.2.1.alike (hB.2.2.2.2.1 t hex).2)⟩) (by decide) (by decide) (hst _ (a5.trans (nat_out (base' := []) XU n1 n2)))
end
theorem rm_n {d w rl : Nat} (h : 64 * d + 12288 ≤ rl) (hw : w ≤ 16) {q : Nat} (hq : q ≤ 1000) : 2 * 0 + w + q ≤ rl := Nat.le_trans (Nat.add_le_add_left hq _) (rm_x h hw)
set_option maxHeartbeats 4000000 in
theorem copy_th {Z : SS0} {D : DD} {l : Launch} (hB : Base Z D) : CopyTh Z D l := by
  intro p e R s m args below meth c d y pc k L A st st' G G1 T locs cells slots ls ad a0 C hHp hRd hsz htr hwst S hR X hd hlk hst hmA hw hs
  have hW := C.2.2.2.1
  have hown := C.2.2.2.2.1
  have hdc : decode c.code pc = .ok (.invokestatic k, 3) := by rw [C.2.1]; exact hd
  have hwt : ((st'.map (cvl ad)).map fun v => v.category).sum ≤ 16 := by rw [wt_of]; exact hw
  have hnat := fun {v1 v2 : Value} {i j n : Int32} (h1 : v1.isRef = true) (h2 : v2.isRef = true) (hsk : st.map (cvl ad) = .int n :: .int j :: v2 :: .int i :: v1 :: st'.map (cvl ad)) {cls : String} {msg : Option String} (hww : ∀ (s' : State), s'.heap = T.heap → s.vm.Alike s'.vm → ∀ (E : CtlPost), (∀ acts', E (.throwNew cls msg) acts' s') → wp (Native.java_lang_System.arraycopy.sem #[v1, .int i, v2, .int j, .int n]) (fun _ _ _ _ => False) E e false [] s') =>
    nat_thr X C.1 hown (index := k) (hB.word hW hlk) (hB.word hW q864) (hB.word hW q863) (hB.word hW q152) h1 h2 (g := F0 m pc ls (st.map (cvl ad))) rfl hsz (rest := st'.map (cvl ad)) hsk hdc (Nat.le_trans (by omega) hRd.1) (by rw [F0_mr]; exact Nat.le_trans (by rw [Nat.add_assoc]; exact Nat.le_refl _) (rm_n hRd.2 hwt (show nativeFrameWords "java/lang/System" "arraycopy" 5 + 11 ≤ 1000 by decide))) hww
  unfold sCopy at hs
  split at hs
  · next a i b j n =>
    have ha : a < hN G := S.2.2.2.1 _ (hmA _ List.mem_cons_self) a rfl
    have hb : b < hN G := S.2.2.2.1 _ (hmA _ (List.mem_cons_of_mem _ (List.mem_cons_of_mem _ List.mem_cons_self))) b rfl
    have hsk : st.map (cvl ad) = .int n :: .int j :: .ref (ad b) :: .int i :: .ref (ad a) :: st'.map (cvl ad) := by rw [hst]; rfl
    split at hs
    · next hbt =>
      obtain ⟨ca, g1, ⟨g2, ka, g3, cma, g4⟩, g56⟩ := S.1.anyarr hB hW ha hbt.1 hbt.2.1
      obtain ⟨cb, h1, ⟨h2, kb, h3, cmb, h4⟩, h56⟩ := S.1.anyarr hB hW hb hbt.2.2.1 hbt.2.2.2
      split at hs
      · cases hs
      · split at hs
        · next heq0 =>
          obtain ⟨heq, h55⟩ := heq0
          obtain ⟨g5, g6⟩ := g56 h55
          obtain ⟨h5, h6⟩ := h56 (by rw [← heq]; exact h55)
          split at hs
          · exfalso
            revert hs
            split
            · intro hs; cases hs
            · split
              · split <;> (intro hs; cases hs)
              · split
                · split <;> (intro hs; cases hs)
                · intro hs; cases hs
          · next hbad =>
            obtain ⟨rfl, rfl⟩ := sX_thr hs
            obtain ⟨tx, ⟨t1, t2⟩, t3⟩ := cp_bounds (e := e) (src := ad a) (dst := ad b) (i := i) (j := j) (n := n) (cs := ca) (cd := cb) (sT := atyx (hT G a)) (dT := atyx (hT G b)) (by rw [heq]; cases atyx (hT G b) <;> simp [refKind]) (by rw [g5]; exact g6) (by rw [h5]; exact h6) (by rw [g5, h5]; exact hbad)
            obtain ⟨vm', nf, X', n1, n2, n3, hgo⟩ := hnat (v1 := .ref (ad a)) (v2 := .ref (ad b)) rfl rfl hsk (cls := "java/lang/ArrayIndexOutOfBoundsException") (msg := some tx) (fun s' hh hal E hE => by
              obtain ⟨ka', z1, z2⟩ := hal.2.2 _ _ g3
              obtain ⟨kb', z3, z4⟩ := hal.2.2 _ _ h3
              exact t3 s' ka' kb' cma cmb (by rw [z2]; exact g4) (by rw [z4]; exact h4) (by rw [hh]; exact g1) (by rw [hh]; exact h1) g2 h2 z1 z3 E hE)
            exact Thrown.msgN (t := 22) (by decide) hB C hHp hRd hsz htr S hR t1 t2 X' rfl hwt n1 n2 n3 hgo
        · next hne0 =>
          split at hs
          · next hlow =>
            have hne : ¬ hT G a = hT G b := fun q => hne0 ⟨q, by have := hlow.1; omega⟩
            obtain ⟨rfl, rfl⟩ := sX_thr hs
            have hne2 : ((refKind (atyx (hT G a)) != refKind (atyx (hT G b))) || (!refKind (atyx (hT G a)) && atyx (hT G a) != atyx (hT G b))) = true := by
              have hal : ∀ x ∈ [40, 41, 42, 43, 44], ∀ z ∈ [40, 41, 42, 43, 44], ¬ x = z → ((refKind (atyx x) != refKind (atyx z)) || (!refKind (atyx x) && atyx x != atyx z)) = true := by decide
              refine hal _ ?_ _ ?_ hne
              · have h1 := hbt.1
                have h2 := hlow.1
                simp only [List.mem_cons, List.not_mem_nil, or_false]
                omega
              · have h1 := hbt.2.2.1
                have h2 := hlow.2
                simp only [List.mem_cons, List.not_mem_nil, or_false]
                omega
            obtain ⟨tx, ⟨t1, t2⟩, t3⟩ := cp_types (e := e) (src := ad a) (dst := ad b) (i := i) (j := j) (n := n) (cs := ca) (cd := cb) (sT := atyx (hT G a)) (dT := atyx (hT G b)) hne2
            obtain ⟨vm', nf, X', n1, n2, n3, hgo⟩ := hnat (v1 := .ref (ad a)) (v2 := .ref (ad b)) rfl rfl hsk (cls := "java/lang/ArrayStoreException") (msg := some tx) (fun s' hh hal E hE => by
              obtain ⟨ka', z1, z2⟩ := hal.2.2 _ _ g3
              obtain ⟨kb', z3, z4⟩ := hal.2.2 _ _ h3
              exact t3 s' ka' kb' cma cmb (by rw [z2]; exact g4) (by rw [z4]; exact h4) (by rw [hh]; exact g1) (by rw [hh]; exact h1) g2 h2 z1 z3 E hE)
            exact Thrown.msgN (t := 24) (by decide) hB C hHp hRd hsz htr S hR t1 t2 X' rfl hwt n1 n2 n3 hgo
          · cases hs
    · cases hs
  · next a i b j n _ =>
    split at hs
    · next hnn =>
      obtain ⟨rfl, rfl⟩ := sX_thr hs
      have hsk : st.map (cvl ad) = .int n :: .int j :: cvr ad b :: .int i :: cvr ad a :: st'.map (cvl ad) := by rw [hst]; rfl
      have hir : ∀ o : Option Nat, (cvr ad o).isRef = true := fun o => by cases o <;> rfl
      obtain ⟨vm', nf, X', n1, n2, n3, hgo⟩ := hnat (v1 := cvr ad a) (v2 := cvr ad b) (hir a) (hir b) hsk (cls := "java/lang/NullPointerException") (msg := none) (fun s' hh hal E hE => by
        refine cp_null ?_ E hE
        cases a with
        | none => exact Or.inl rfl
        | some a =>
          cases b with
          | none => exact Or.inr ⟨⟨_, rfl⟩, rfl⟩
          | some b => simp at hnn)
      exact Thrown.npeN hB C hHp hRd hsz htr S hR X' rfl hwt n1 n2 n3 hgo
    · cases hs
  · cases hs
