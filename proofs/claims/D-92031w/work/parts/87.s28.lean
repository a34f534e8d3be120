/-! soundness 28: odd instructions that go on -/
theorem to_go {y z pc len : Nat} {L : AL} {A st : List AV} {G : AH} {q : Nat × AL × List AV × AH} (h : sTo y z pc len L A st G = some (.inl q)) : wt st ≤ 16 ∧ ((z = 1000 ∧ q = (pc + len, L, st, G)) ∨ (z = 1001 ∧ sCopy y pc L A st G = some (.inl q)) ∨ (z = 1002 ∧ ∃ a, A = [vr (some a)] ∧ (hT G a = 50 ∨ hT G a = 55) ∧ q = (pc + len, L, vr (some 2) :: st, G)) ∨ (z = 1003 ∧ ∃ a, A = [vr (some a)] ∧ (hT G a = 12 ∨ hT G a = 22) ∧ q = (pc + len, L, st, bmp G))) := by
  unfold sTo at h
  split at h
  · split at h <;> cases h
  · split at h
    · next hw =>
      refine ⟨hw, ?_⟩
      split at h
      · next e => cases h; exact Or.inl ⟨e, rfl⟩
      · split at h
        · next e => exact Or.inr (Or.inl ⟨e, h⟩)
        · split at h
          · next e =>
            split at h
            · next a =>
              split at h
              · next ht => cases h; exact Or.inr (Or.inr (Or.inl ⟨e, a, rfl, ht, rfl⟩))
              · cases h
            · cases h
          · split at h
            · next e =>
              split at h
              · next a =>
                split at h
                · next ht => cases h; exact Or.inr (Or.inr (Or.inr ⟨e, a, rfl, ht, rfl⟩))
                · cases h
              · cases h
            · cases h
    · cases h
theorem sX_nogo {y pc t : Nat} {G : AH} {q : Nat × AL × List AV × AH} (h : sX y pc t G = some (.inl q)) : False := by
  unfold sX at h
  split at h <;> cases h
section
variable {Z : SS0} {D : DD} {p : Program} {l : Launch} {e : Env} {R : Room} {s : State} {m : MethodId} {args : Array Value} {below : List Frame} {meth : Method} {c : Code} {Q : State → Prop} {d y pc k len : Nat} {L : AL} {st : List AV} {G : AH} {H : Heap} {locs : List Loc} {cells slots : Nat} {ls : Array Slot} {ad : Nat → Nat} {q : Nat × AL × List AV × AH}
theorem Conc.t100 (hc : Conc Z D ad G H) {a : Nat} (ha : a < hN G) : hT G a < 100 := by
  obtain ⟨t0, -, -, t1, -, t2⟩ := hc.2.2.2.2.2.1
  rcases Nat.lt_or_ge a 3 with q | q
  · match a, q with
    | 0, _ => rw [t0]; decide
    | 1, _ => rw [t1]; decide
    | 2, _ => rw [t2]; decide
  · rcases (hc.1 a q ha).2.2.2 with h | h | h
    · exact (show ∀ t ∈ objT, t < 100 by decide) _ h
    · exact (show ∀ t ∈ arrTg, t < 100 by decide) _ h
    · exact (show ∀ t ∈ excT, t < 100 by decide) _ h
theorem gOini {a : Nat} {st' : List AV} (hB : Base Z D) (C : Ctx Z p s m meth c y) (hRd : RmD d R) (hsz : ls.size = c.maxLocals) (hlk : Cond.methodLink (cnm (mcls y)) k oiN ∈ lw_all) (hd : decode (mcode y) pc = .ok (.invokespecial k, 3)) (hst : st.map (cvl ad) = Value.ref (ad a) :: st'.map (cvl ad)) (hw : wt st' ≤ 16) (hmS : ∀ v ∈ st', v ∈ st) (S : Sim Z D ad G L st H locs ls) (K : Nx Z D p l e R s m args below meth c Q cells slots ad G (pc + 3, L, st', G)) : W p l e R s m args below meth c H locs cells slots Q (F0 m pc ls (st.map (cvl ad))) := by
  obtain ⟨hx, hb, hml, hW, hown, -, -, -⟩ := C
  rw [hst]
  have hwt : ((st'.map (cvl ad)).map fun v => v.category).sum = wt st' := wt_of ad st'
  obtain ⟨r1, r2⟩ := hRd
  refine W.objInit hx hb hown (idx := k) (hB.word hW hlk) (hB.word hW q169) (hB.word hW q170) (g := F0 m pc ls (Value.ref (ad a) :: st'.map (cvl ad))) rfl hsz (rest := st'.map (cvl ad)) rfl hd (by omega) (by rw [hwt, F0_mr]; omega) ?_
  exact Nx.same K (S.sub fun w hw => S.2.2.2.1 w (hmS w hw))
theorem gGst (hB : Base Z D) (C : Ctx Z p s m meth c y) (hc16 : mcls y = 16) (hd : decode (mcode y) pc = .ok (.getstatic 39, 3)) (S : Sim Z D ad G L st H locs ls) (K : Nx Z D p l e R s m args below meth c Q cells slots ad G (pc + 3, L, vr (some 1) :: st, G)) : W p l e R s m args below meth c H locs cells slots Q (F0 m pc ls (st.map (cvl ad))) := by
  obtain ⟨hx, hb, hml, hW, hown, -, -, -⟩ := C
  rw [hc16] at hown
  obtain ⟨cf, kf, fi, f, a, cell, h1, h2, h3, h4, h5, h6, h7, h8⟩ := va_Z.moved hW.alike hB.2.2.2.2.2.2.2.2.2.2.2.1
  have h5' : H[a]? = some cell := by rw [S.1.2.2.2.2.2.2.2.2 a (Array.getElem?_eq_some_iff.mp h5).1]; exact h5
  have hS := S.push (v := vr (some 1)) (st' := vr (some 1) :: st) (fun r hr => by cases hr; have := S.1.2.2.2.2.1; omega) (fun w hw => List.mem_cons.mp hw)
  have k1 := Nx.same K hS
  rw [List.map_cons, cvl_r] at k1
  have e1 : cvr ad (some 1) = .ref Z.e := by show Value.ref (ad 1) = _; rw [S.1.2.2.2.2.2.2.1.2.1]
  rw [e1] at k1
  exact W.gets hx hb hown (hB.word hW q183) h1 h2 h3 h4 h5' (fun e => by rw [e] at h6; cases h6) h7 rfl hd k1
theorem gLdcM (hB : Base Z D) (C : Ctx Z p s m meth c y) (hc30 : mcls y = 30) (hd : decode (mcode y) pc = .ok (.ldc 110, 2)) (S : Sim Z D ad G L st H locs ls) (K : Nx Z D p l e R s m args below meth c Q cells slots ad G (pc + 2, L, vr (some 2) :: st, G)) : W p l e R s m args below meth c H locs cells slots Q (F0 m pc ls (st.map (cvl ad))) := by
  obtain ⟨hx, hb, hml, hW, hown, -, -, -⟩ := C
  rw [hc30] at hown
  have hS := S.push (v := vr (some 2)) (st' := vr (some 2) :: st) (fun r hr => by cases hr; have := S.1.2.2.2.2.1; omega) (fun w hw => List.mem_cons.mp hw)
  have k1 := Nx.same K hS
  rw [List.map_cons, cvl_r] at k1
  have e1 : cvr ad (some 2) = .ref Z.m := by show Value.ref (ad 2) = _; rw [S.1.2.2.2.2.2.2.1.2.2]
  rw [e1] at k1
  exact va_ldcM hx hb hown (hB.word hW q856) (va_Mi.moved hW.alike hB.2.2.2.2.2.2.2.2.2.2.1) hd k1
theorem gGcl {a : Nat} {st' : List AV} (hB : Base Z D) (C : Ctx Z p s m meth c y) (hRd : RmD d R) (hsz : ls.size = c.maxLocals) (hc30 : mcls y = 30) (hd : decode (mcode y) pc = .ok (.invokevirtual 86, 3)) (hst : st.map (cvl ad) = Value.ref (ad a) :: st'.map (cvl ad)) (ha : a < hN G) (ht : hT G a = 50 ∨ hT G a = 55) (hw : wt st' ≤ 16) (hmS : ∀ v ∈ st', v ∈ st) (S : Sim Z D ad G L st H locs ls) (K : Nx Z D p l e R s m args below meth c Q cells slots ad G (pc + 3, L, vr (some 2) :: st', G)) : W p l e R s m args below meth c H locs cells slots Q (F0 m pc ls (st.map (cvl ad))) := by
  obtain ⟨hx, hb, hml, hW, hown, -, -, -⟩ := C
  rw [hc30] at hown
  rw [hst]
  have hwt : ((st'.map (cvl ad)).map fun v => v.category).sum = wt st' := wt_of ad st'
  obtain ⟨r1, r2⟩ := hRd
  have hS := (S.sub (st' := st') fun w hw => S.2.2.2.1 w (hmS w hw)).push (v := vr (some 2)) (st' := vr (some 2) :: st') (fun r hr => by cases hr; have := S.1.2.2.2.2.1; omega) (fun w hw => List.mem_cons.mp hw)
  have k1 := Nx.same K hS
  rw [List.map_cons, cvl_r] at k1
  have e1 : cvr ad (some 2) = .ref Z.m := by show Value.ref (ad 2) = _; rw [S.1.2.2.2.2.2.2.1.2.2]
  rw [e1] at k1
  have hfo : s.vm.findClass "[Ljava/lang/Object;" = some (D.2.2 50) := va_nmO (hB.arr hW (t := 50) (by decide)).2 rfl
  have hr : ∃ cell : Cell, H[ad a]? = some cell ∧ cell.vm.isStatics = false ∧ s.vm.findClass "[Ljava/lang/Object;" = some cell.cls := by
    rcases ht with h | h
    · refine ⟨_, S.1.arrAt ha (by rw [h]; decide), rfl, ?_⟩
      rw [hfo]
      show some (D.2.2 50) = some (D.2.2 (hT G a))
      rw [h]
    · have e2 := S.1.tag55 ha h
      subst e2
      obtain ⟨-, -, -, -, -, -, -, x7, -, ⟨cellE, y1, y2, y3, y4, y5, y6⟩, -⟩ := hB
      refine ⟨cellE, ?_, y3, by rw [hfo, y2]⟩
      rw [S.1.2.2.2.2.2.2.1.2.1, S.1.2.2.2.2.2.2.2.2 _ x7]
      exact y1
  exact va_getC hx hb (by rw [← hsz]) hown (hB.word hW q830) (va_Dc.use (va_Dc.moved hW.alike hB.2.2.2.2.2.2.2.2.2.2.2.2)) (hB.word hW q2691) (hB.word hW q831) (hB.word hW q852) (va_Mi.moved hW.alike hB.2.2.2.2.2.2.2.2.2.2.1) hr (by omega) (by rw [hwt]; omega) hd k1
end
