/-! soundness 4: fields -/
theorem okF_obj {t f : Nat} (h : okF t f = true) : t ∈ objT ∧ ∃ k, k < nf t ∧ fdOf t k = f := by
  have h0 : cfT.length ≤ 40 := by decide
  have h1 : ∀ t, t < 40 → (cfT.getD t []) ≠ [] → t ∈ objT := by decide +kernel
  have h2 : f ∈ cfT.getD t [] := by unfold okF at h; simpa using h
  have h3 : t < 40 := by
    rcases Nat.lt_or_ge t 40 with q | q
    · exact q
    · have : cfT.getD t [] = [] := by
        rw [List.getD_eq_getElem?_getD, List.getElem?_eq_none (by omega)]
        rfl
      rw [this] at h2
      cases h2
  refine ⟨h1 t h3 (fun e => by rw [e] at h2; cases h2), ?_⟩
  obtain ⟨k, hk, e⟩ := List.mem_iff_getElem.mp h2
  refine ⟨k, hk, ?_⟩
  unfold fdOf
  rw [List.getD_eq_getElem?_getD, List.getElem?_eq_getElem hk, e]
  rfl
theorem lays_all : ∀ t ∈ objT, ∀ w ∈ u_ws (cnm t) (cTT t) (nf t), w ∈ lw_all := by
  intro t ht
  unfold objT at ht
  simp only [List.mem_cons, List.not_mem_nil, or_false] at ht
  rcases ht with rfl | rfl | rfl | rfl | rfl | rfl | rfl | rfl | rfl | rfl | rfl | rfl | rfl
  · exact in_X0
  · exact in_X1
  · exact in_X2
  · exact in_X3
  · exact in_X4
  · exact in_X5
  · exact in_X7
  · exact in_X8
  · exact in_X9
  · exact in_X10
  · exact in_X11
  · exact in_X13
  · exact in_J2
theorem nm_all : ∀ t ∈ objT, ∀ a, a < nf t → ∀ b, b < nf t → a ≠ b → (cTT t a).2.1 ≠ (cTT t b).2.1 ∨ ((cTT t a).2.2.2 = true ∧ (cTT t b).2.2.2 = true ∧ (cTT t a).1 ≠ (cTT t b).1) := by decide +kernel
theorem ty_all : ∀ t ∈ objT, ∀ k, k < nf t → parseFieldDescriptor (cTT t k).2.2.1 = some (cty t k) := by
  intro t ht
  unfold objT at ht
  simp only [List.mem_cons, List.not_mem_nil, or_false] at ht
  rcases ht with rfl | rfl | rfl | rfl | rfl | rfl | rfl | rfl | rfl | rfl | rfl | rfl | rfl
  · exact tyX0_ok
  · exact tyX1_ok
  · exact tyX2_ok
  · exact tyX3_ok
  · exact tyX4_ok
  · exact tyX5_ok
  · exact tyX7_ok
  · exact tyX8_ok
  · exact tyX9_ok
  · exact tyX10_ok
  · exact tyX11_ok
  · exact tyX13_ok
  · exact tyJ2_ok
section
variable {Z : SS0} {D : DD} {ad : Nat → Nat} {G G' : AH} {H H' : Heap} {a : Nat}
theorem CellA.kept {b : Nat} (h : CellA D ad G H b) (ht : hT G' b = hT G b) (hl : hL G' b = hL G b) (hi : ∀ i, hI G' b i = hI G b i) (hj : ∀ i, hJ G' b i = hJ G b i) (hr : ∀ i, hR G' b i = hR G b i) (hq : H'[ad b]? = H[ad b]?) : CellA D ad G' H' b := by
  obtain ⟨h1, h2, h3, h4⟩ := h
  have ef : ∀ f, fval ad G' b f = fval ad G b f := by
    intro f
    unfold fval
    rw [hi, hj, hr]
  have ea : ∀ t i, aval ad G' b t i = aval ad G b t i := by
    intro t i
    unfold aval
    rw [hi, hj, hr]
  refine ⟨fun q => ?_, fun q => ?_, fun q => ?_, by rw [ht]; exact h4⟩
  · rw [ht] at q ⊢
    exact ((h1 q).kept hq).to (fun k _ => (ef _).symm)
  · rw [ht] at q ⊢
    refine ⟨?_, by rw [hl]; exact (h2 q).2⟩
    rw [hq, hl, (h2 q).1]
    congr 2
    funext i
    exact (ea _ i).symm
  · rw [ht] at q ⊢
    rw [hq]
    exact h3 q
/-- one cell is written -/
theorem Conc.upd (h : Conc Z D ad G H) (h3 : 3 ≤ a) (ha : a < hN G) (hsz : H'.size = H.size) (hoth : ∀ q, q ≠ ad a → H'[q]? = H[q]?) (eN : hN G' = hN G) (eT : ∀ b, hT G' b = hT G b) (eL : ∀ b, hL G' b = hL G b) (eI : ∀ b i, b ≠ a → hI G' b i = hI G b i) (eJ : ∀ b i, b ≠ a → hJ G' b i = hJ G b i) (eR : ∀ b i, b ≠ a → hR G' b i = hR G b i) (eS : ∀ i r, hR G' a i = some r → r < hN G) (hc : CellA D ad G' H' a) : Conc Z D ad G' H' := by
  obtain ⟨c1, c2, c3, c4, c5, ⟨o1, o2, o3, o4, o5, o6⟩, c7, c8, c9⟩ := h
  refine ⟨fun b hb hbN => ?_, fun x y hx hy h2 h2' => c2 x y (by omega) (by omega) h2 h2', fun b hb hbN => ?_, fun b i r hr => ?_, by omega, ⟨by rw [eT]; exact o1, by rw [eL]; exact o2, fun i hi => by rw [eI 0 i (by omega)]; exact o3 i hi, by rw [eT]; exact o4, by rw [eL]; exact o5, by rw [eT]; exact o6⟩, c7, by omega, fun q hq => ?_⟩
  · by_cases e : b = a
    · subst e; exact hc
    · refine (c1 b hb (by omega)).kept (eT b) (eL b) (fun i => eI b i e) (fun i => eJ b i e) (fun i => eR b i e) (hoth _ fun q => e (c2 b a (by omega) ha (by omega) (by omega) q))
  · rw [hsz]; exact c3 b hb (by omega)
  · rw [eN]
    by_cases e : b = a
    · subst e; exact eS i r hr
    · exact c4 b i r (by rw [← eR b i e]; exact hr)
  · rw [hoth q (fun e => by have := (c3 a h3 ha).1; omega)]
    exact c9 q hq
theorem Conc.obj3 (h : Conc Z D ad G H) (ht : hT G a ∈ objT) : 3 ≤ a := by
  obtain ⟨-, -, -, -, -, ⟨o1, -, -, o4, -, o6⟩, -⟩ := h
  rcases Nat.lt_or_ge a 3 with q | q
  · exfalso
    rcases (show a = 0 ∨ a = 1 ∨ a = 2 by omega) with e | e | e
    · rw [e, o1] at ht; revert ht; decide
    · rw [e, o4] at ht; revert ht; decide
    · rw [e, o6] at ht; revert ht; decide
  · exact q
theorem Conc.arr3 (h : Conc Z D ad G H) (ht : hT G a ∈ arrTg) : 3 ≤ a := by
  obtain ⟨-, -, -, -, -, ⟨o1, -, -, o4, -, o6⟩, -⟩ := h
  rcases Nat.lt_or_ge a 3 with q | q
  · exfalso
    rcases (show a = 0 ∨ a = 1 ∨ a = 2 by omega) with e | e | e
    · rw [e, o1] at ht; revert ht; decide
    · rw [e, o4] at ht; revert ht; decide
    · rw [e, o6] at ht; revert ht; decide
  · exact q
end
/-- the field f of a class of tag t: how the tables find it -/
theorem fld_found {Z : SS0} {D : DD} (hB : Base Z D) {s : State} (hW : Z.s.WarmedH s.vm) {args : Array Value} {t k : Nat} (ht : t ∈ objT) (hk : k < nf t) :
    ∃ (cf : ClassId) (kf : Class) (fi : Nat) (fd : Field) (kC : Class), s.fieldFound? (fOwn (fdOf t k)) (fNam (fdOf t k)) (fDsc (fdOf t k)) = some (cf, kf, fi, fd) ∧ fd.slot = D.2.1 t k ∧ fd.isStatic = false ∧ s.vm.findClass (cnm t) = some (D.1 t) ∧ s.vm.classes[D.1 t]? = some kC ∧ kC.kind = .ordinary := by
  obtain ⟨hS, hfc, kC, hkC, hkind⟩ := hB.obj hW ht
  obtain ⟨cf, kf, fi, f, hi, hsl⟩ := hS k hk
  have hts : ∀ w ∈ lw_all, w.before args s = true := fun w hw => hB.word hW hw
  have hst := (u_facts hfc hkC (u_lays hts (lays_all t ht) hk) hi).1
  obtain ⟨e1, e2, e3⟩ := cTT_ok t ht k hk
  rw [e1, e2, e3] at hi
  exact ⟨cf, kf, fi, f, kC, hi, hsl, hst, hfc, hkC, hkind⟩
/-- two fields of one object lie apart -/
theorem fld_apart {Z : SS0} {D : DD} (hB : Base Z D) {s : State} (hW : Z.s.WarmedH s.vm) {t : Nat} (ht : t ∈ objT) : ∀ a b, a < nf t → b < nf t → a ≠ b → D.2.1 t a ≠ D.2.1 t b := by
  intro x y hx hy hne
  have hts : ∀ w ∈ lw_all, w.before #[] s = true := fun w hw => hB.word hW hw
  obtain ⟨hS, hfc, -⟩ := hB.obj hW ht
  obtain ⟨c1, k1, i1, fa, hia, ea⟩ := hS x hx
  obtain ⟨c2, k2, i2, fb, hib, eb⟩ := hS y hy
  rw [← ea, ← eb]
  have la := u_lays hts (lays_all t ht) hx
  have lb := u_lays hts (lays_all t ht) hy
  rcases nm_all t ht x hx y hy hne with hn | ⟨f1, f2, ho⟩
  · refine u_apart la lb hia hib ?_
    rw [(State.fieldFound?_type hia (ty_all t ht x hx)).1, (State.fieldFound?_type hib (ty_all t ht y hy)).1]
    exact hn
  · have l1 := hts _ (lays_all t ht _ (u_in_lay hx))
    have l2 := hts _ (lays_all t ht _ (u_in_lay hy))
    unfold u_lay at l1 l2
    rw [if_pos f1] at l1
    rw [if_pos f2] at l2
    obtain ⟨ca, _, c1', k1', i1', fa', g1, -, g2, -, -, -, g3, -, da, g4, g5, -, -⟩ := Cond.laysFinal_spec l1
    obtain ⟨cb, _, c2', k2', i2', fb', h1, -, h2, -, -, -, h3, -, db, h4, h5, -, -⟩ := Cond.laysFinal_spec l2
    cases hia.symm.trans g2
    cases hib.symm.trans h2
    cases g1.symm.trans h1
    intro hs
    rw [hs] at g4
    cases g4.symm.trans h4
    obtain ⟨ka, e1, e2⟩ := Vm.findClass_spec g3
    obtain ⟨kb, e3, e4⟩ := Vm.findClass_spec h3
    have e5 := (State.fieldFound?_spec hia).1
    have e6 := (State.fieldFound?_spec hib).1
    cases e1.symm.trans e5
    cases e3.symm.trans e6
    exact ho (by rw [← e2, ← e4, ← g5, ← h5])
section
variable {Z : SS0} {D : DD} {p : Program} {l : Launch} {e : Env} {R : Room} {s : State} {m : MethodId} {args : Array Value} {below : List Frame} {meth : Method} {c : Code} {Q : State → Prop} {y pc k f : Nat} {L : AL} {st : List AV} {G : AH} {H : Heap} {locs : List Loc} {cells slots : Nat} {ls : Array Slot} {ad : Nat → Nat} {q : Nat × AL × List AV × AH}
theorem gGet0 {a : Nat} {rest : List Value} (hB : Base Z D) (C : Ctx Z p s m meth c y) (hf : FLf (mcls y) k f) (hd : decode (mcode y) pc = .ok (.getfield k, 3)) (hc : Conc Z D ad G H) (ha : a < hN G) (hok : okF (hT G a) f = true)
    (K : W p l e R s m args below meth c H locs cells slots Q (F0 m (pc + 3) ls (fval ad G a f :: rest))) : W p l e R s m args below meth c H locs cells slots Q (F0 m pc ls (.ref (ad a) :: rest)) := by
  obtain ⟨hx, hb, hml, hW, hown, -, -, -⟩ := C
  obtain ⟨ht, k0, hk0, rfl⟩ := okF_obj hok
  obtain ⟨cf, kf, fi, fd, kC, hi, hsl, hst, -, -, -⟩ := fld_found hB hW (args := args) ht hk0
  obtain ⟨cell, q1, q2, q3, q4⟩ := (hc.1 a (hc.obj3 ht) ha).1 ht
  have hv : cell.slots[fd.slot]? = some (fval ad G a (fdOf (hT G a) k0)) := by rw [hsl, q4 k0 hk0]
  rcases hf with ⟨ref, hl, hsame⟩ | ⟨host, hl⟩
  · refine W.getf hx hb hown (hB.word hW hl) (cf := cf) (i := fi) (k := kf) (f := fd) ?_ hst q1 (by rw [q3]; exact fun h => by cases h) hv rfl rfl hd K
    rcases hsame with e | e
    · rw [e]; exact hi
    · exact u_same (args := args) (hB.word hW e) _ hi
  · have hw : (Cond.fieldLinkNest (cnm (mcls y)) k (fOwn (fdOf (hT G a) k0)) (fNam (fdOf (hT G a) k0)) (fDsc (fdOf (hT G a) k0)) host).before args s = true :=
      va_Nw.use rfl (va_Nw.warmF hW (va_Nw.of rfl (hB.1 _ hl)))
    exact va_Wgetf hx hb hown hw hi hst q1 (by rw [q3]; exact fun h => by cases h) hv rfl rfl hd K
theorem gGet (hB : Base Z D) (C : Ctx Z p s m meth c y) (hf : FLf (mcls y) k f) (hd : decode (mcode y) pc = .ok (.getfield k, 3)) (hs : sGet y f pc L st G = some (.inl q)) (S : Sim Z D ad G L st H locs ls) (K : Nx Z D p l e R s m args below meth c Q cells slots ad G q) : W p l e R s m args below meth c H locs cells slots Q (F0 m pc ls (st.map (cvl ad))) := by
  unfold sGet at hs
  split at hs
  · next a st2 =>
    split at hs
    · next hok =>
      have ha : a < hN G := S.2.2.2.1 _ List.mem_cons_self a rfl
      refine gGet0 hB C hf hd S.1 ha hok ?_
      split at hs
      · next e =>
        cases hs
        have := Nx.same K (S.sub fun w hw => by
          rcases List.mem_cons.mp hw with q | q
          · rw [q]; exact Scp.l
          · exact S.2.2.2.1 w (List.mem_cons_of_mem _ q))
        unfold fval
        rw [e]
        exact this
      · next e =>
        cases hs
        have := Nx.same K (S.sub fun w hw => by
          rcases List.mem_cons.mp hw with q | q
          · rw [q]; exact fun r hr => S.1.2.2.2.1 a f r (by have := congrArg (fun v : AV => match v with | .inr (.inr o) => o | _ => none) hr; exact this)
          · exact S.2.2.2.1 w (List.mem_cons_of_mem _ q))
        unfold fval
        rw [e]
        exact this
      · next e1 e2 =>
        cases hs
        have := Nx.same K (S.sub fun w hw => by
          rcases List.mem_cons.mp hw with q | q
          · rw [q]; exact Scp.i
          · exact S.2.2.2.1 w (List.mem_cons_of_mem _ q))
        have e : fval ad G a f = .int (hI G a f) := by
          unfold fval
          split
          · next h => exact absurd h e1
          · next h => exact absurd h e2
          · rfl
        rw [e]
        exact this
    · cases hs
  · unfold sX at hs
    split at hs
    · cases hs
    · cases hs
  · cases hs
end
