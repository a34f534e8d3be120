/-! soundness 10: casts -/
theorem cast_mem {t : Nat} (h : castK.contains t = true) : (t, castTo t) ∈ castT := by
  have h1 : t ∈ castK := by simpa using h
  revert h1
  revert t
  intro t _ h1
  exact (show ∀ t ∈ castK, (t, castTo t) ∈ castT by decide) t h1
theorem castN_mem {t : Nat} (h : castK.contains t = true) : (t, castNo t) ∈ castNT := by
  have h1 : t ∈ castK := by simpa using h
  exact (show ∀ t ∈ castK, (t, castNo t) ∈ castNT by decide) t h1
/-- tags of things, measures, sheets -/
def knL2 : List Nat := [3, 4, 5, 7, 8, 9, 10, 11, 40, 41, 42, 43]
section
variable {Z : SS0} {D : DD} {p : Program} {l : Launch} {e : Env} {R : Room} {s : State} {m : MethodId} {args : Array Value} {below : List Frame} {meth : Method} {c : Code} {Q : State → Prop} {y pc k f : Nat} {L : AL} {st : List AV} {G : AH} {H : Heap} {locs : List Loc} {cells slots : Nat} {ls : Array Slot} {ad : Nat → Nat} {q : Nat × AL × List AV × AH}
/-- an object whose class is known just so -/
theorem Conc.known (hB : Base Z D) (hW : Z.s.WarmedH s.vm) (hc : Conc Z D ad G H) {a : Nat} (ha : a < hN G) (hk : hT G a ∈ knL2) : ∃ cell : Cell, H[ad a]? = some cell ∧ cell.vm.isStatics = false ∧ s.vm.findClass (tnm (hT G a)) = some cell.cls := by
  rcases (show ∀ t ∈ knL2, t ∈ objT ∨ t ∈ arrTg by decide) _ hk with h | h
  · obtain ⟨cell, g1, g2, g3, -⟩ := (hc.1 a (hc.obj3 h) ha).1 h
    refine ⟨cell, g1, by rw [g3]; rfl, ?_⟩
    rw [(show ∀ t ∈ objT, tnm t = cnm t by decide) _ h, g2]
    exact (hB.obj hW h).2.1
  · refine ⟨_, hc.arrAt ha h, rfl, ?_⟩
    show s.vm.findClass (tnm (hT G a)) = some (D.2.2 (hT G a))
    have := (hB.arr hW h).2
    revert this h hk
    generalize hT G a = t
    unfold knL2
    simp only [List.mem_cons, List.not_mem_nil, or_false]
    rintro (rfl | rfl | rfl | rfl | rfl | rfl | rfl | rfl | rfl | rfl | rfl | rfl) h h' <;> first | exact h' | exact absurd h (by decide)
theorem asg_yes (hB : Base Z D) (hW : Z.s.WarmedH s.vm) {t T : Nat} {cid : ClassId} (hT0 : castK.contains T = true) (ht : t ∈ castTo T) (hf : s.vm.findClass (tnm t) = some cid) : ∃ tid, s.vm.findClass (clN T) = some tid ∧ s.vm.assignable cid tid = true := by
  rcases cast_yes _ (cast_mem hT0) t ht with h | h
  · rw [h] at hf
    exact ⟨cid, hf, va_asg _ _⟩
  · obtain ⟨c0, t1, f1, f2, f3⟩ := Cond.castable_spec (va_Nw.use (A := #[]) rfl (va_Nw.warmC hW (va_Nw.of rfl (hB.1 _ h))))
    cases hf.symm.trans f1
    exact ⟨t1, f2, f3⟩
theorem gCast {t : Nat} (hB : Base Z D) (C : Ctx Z p s m meth c y) (hd : decode (mcode y) pc = .ok (.checkcast k, 3)) (hcl : clsR (kf (mcls y) k) = some t) (hk : castK.contains t = true) (hs : sCast y (castTo t) (castNo t) pc L st G = some (.inl q)) (S : Sim Z D ad G L st H locs ls) (K : Nx Z D p l e R s m args below meth c Q cells slots ad G q) : W p l e R s m args below meth c H locs cells slots Q (F0 m pc ls (st.map (cvl ad))) := by
  obtain ⟨hx, hb, hml, hW, hown, -, -, -⟩ := C
  unfold sCast at hs
  split at hs
  · next a st2 =>
    have ha : a < hN G := S.2.2.2.1 _ List.mem_cons_self a rfl
    split at hs
    · next ht =>
      cases hs
      have ht : hT G a ∈ castTo t := by simpa using ht
      have hkn : hT G a ∈ knL2 := (show ∀ T ∈ castK, ∀ t ∈ castTo T, t ∈ knL2 by decide) t (by simpa using hk) _ ht
      obtain ⟨cell, g1, g2, g3⟩ := S.1.known hB hW ha hkn
      obtain ⟨tid, f2, f3⟩ := asg_yes hB hW hk ht g3
      have hK := Nx.same K S
      intro T hT X
      obtain ⟨vm', X', st'⟩ := X.checkcastYes hx hown (hB.word hW (cl_all hcl)) (by rw [hT]; exact g1) g2 f2 f3 (g := F0 m pc ls (.ref (ad a) :: st2.map (cvl ad))) rfl rfl (by rw [hb]; exact hd)
      obtain ⟨t, a1, b1⟩ := hK (T.setVm vm') hT X'
      exact ⟨t, st' t a1, b1⟩
    · split at hs
      · unfold sX at hs
        split at hs <;> cases hs
      · cases hs
  · cases hs
    exact lv_castN hx hb hd (Nx.same K S)
  · cases hs
theorem gInst {t : Nat} (hB : Base Z D) (C : Ctx Z p s m meth c y) (hd : decode (mcode y) pc = .ok (.instanceof k, 3)) (hcl : clsR (kf (mcls y) k) = some t) (hk : castK.contains t = true) (hs : sInst (castTo t) (castNo t) pc L st G = some (.inl q)) (S : Sim Z D ad G L st H locs ls) (K : Nx Z D p l e R s m args below meth c Q cells slots ad G q) : W p l e R s m args below meth c H locs cells slots Q (F0 m pc ls (st.map (cvl ad))) := by
  obtain ⟨hx, hb, hml, hW, hown, -, -, -⟩ := C
  unfold sInst at hs
  split at hs
  · next a st2 =>
    have ha : a < hN G := S.2.2.2.1 _ List.mem_cons_self a rfl
    have hS2 : ∀ x : Int32, Sim Z D ad G L (vi x :: st2) H locs ls := fun x => S.sub fun w hw => by
      rcases List.mem_cons.mp hw with q | q
      · rw [q]; exact Scp.i
      · exact S.2.2.2.1 w (List.mem_cons_of_mem _ q)
    split at hs
    · next ht =>
      cases hs
      have ht : hT G a ∈ castTo t := by simpa using ht
      have hkn : hT G a ∈ knL2 := (show ∀ T ∈ castK, ∀ t ∈ castTo T, t ∈ knL2 by decide) t (by simpa using hk) _ ht
      obtain ⟨cell, g1, g2, g3⟩ := S.1.known hB hW ha hkn
      have hK := Nx.same K (hS2 1)
      obtain ⟨tid, f2, f3⟩ := asg_yes hB hW hk ht g3
      intro T hT X
      obtain ⟨vm', X', st'⟩ := X.instanceofYes hx hown (hB.word hW (cl_all hcl)) (by rw [hT]; exact g1) g2 f2 f3 (g := F0 m pc ls (.ref (ad a) :: st2.map (cvl ad))) rfl rfl (by rw [hb]; exact hd)
      obtain ⟨t, a1, b1⟩ := hK (T.setVm vm') hT X'
      exact ⟨t, st' t a1, b1⟩
    · split at hs
      · next hn =>
        cases hs
        have hn : hT G a ∈ castNo t := by simpa using hn
        have hkn : hT G a ∈ knL2 := (show ∀ T ∈ castK, ∀ t ∈ castNo T, t ∈ knL2 by decide) t (by simpa using hk) _ hn
        obtain ⟨cell, g1, g2, g3⟩ := S.1.known hB hW ha hkn
        have hno : va_Nc (tnm (hT G a)) (clN t) s := va_Nc.moved hW.alike (va_Nc.of (flat_of_before _ hB.2.1 _ (cast_no _ (castN_mem hk) _ hn)))
        exact va_instNo hx hb hown (hB.word hW (cl_all hcl)) hno ⟨cell, g1, g2, g3⟩ hd (Nx.same K (hS2 0))
      · cases hs
  · cases hs
    exact lv_instN hx hb hd (Nx.same K (S.sub fun w hw => by
      rcases List.mem_cons.mp hw with q | q
      · rw [q]; exact Scp.i
      · exact S.2.2.2.1 w (List.mem_cons_of_mem _ q)))
  · cases hs
end
