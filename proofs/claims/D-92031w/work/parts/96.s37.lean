/-! soundness 37: a cast that fails -/
theorem fc_spec {vm : Vm} {n : String} {c : ClassId} {k : Class} (h : vm.findClass n = some c) (hk : vm.classes[c]? = some k) : k.name = n ∧ k.hidden = none ∧ k.loader = none := by
  unfold Vm.findClass at h
  obtain ⟨hlt, hp, -⟩ := Array.findIdx?_eq_some_iff_getElem.mp h
  have hkk : vm.classes[c] = k := (Array.getElem?_eq_some_iff.mp hk).2
  rw [hkk] at hp
  simp only [Bool.and_eq_true, beq_iff_eq, Option.isNone_iff_eq_none] at hp
  obtain ⟨⟨⟨h1, h2⟩, -⟩, h3⟩ := hp
  exact ⟨h1, h2, h3⟩
/-- the modules' names -/
def MRg (vm : Vm) : Prop := ∀ mo ∈ vm.modules, mo.loader = none → (∃ q ∈ castPackages_1, mo.packages.contains q = true) → mo.name = "java.base"
theorem MRg.of {s : State} (h : modulesRight_1 s = true) : MRg s.vm := by
  intro mo hm hl ⟨q, hq, hc⟩
  have h1 := List.all_eq_true.mp h mo hm
  rw [hl] at h1
  have h2 : (castPackages_1.any fun p => mo.packages.contains p) = true := List.any_eq_true.mpr ⟨q, hq, hc⟩
  rw [h2] at h1
  simpa using h1
theorem MRg.alike {vm vm' : Vm} (h : MRg vm) (hal : vm.Alike vm') : MRg vm' := by
  have e : vm'.modules = vm.modules := by rw [hal.1]
  unfold MRg
  rw [e]
  exact h
theorem home_len {vm : Vm} {k : Class} (hM : MRg vm) (hl : k.loader = none) (hp : packageOf k.name ∈ castPackages_1) : (vm.home k).toList.length ≤ 100 := by
  unfold Vm.home
  rw [hl]
  have e1 : ∀ mo, vm.moduleOf k = some mo → mo.name = "java.base" := by
    intro mo h
    unfold Vm.moduleOf at h
    split at h
    · have := List.find?_some h
      simpa using this
    · have h1 := List.find?_some h
      have h2 := List.mem_of_find?_eq_some h
      simp only [Bool.and_eq_true, beq_iff_eq] at h1
      exact hM mo h2 (h1.1.trans hl) ⟨_, hp, h1.2⟩
  cases h : vm.moduleOf k with
  | none =>
    show ("unnamed module" ++ " of loader " ++ "'bootstrap'").toList.length ≤ 100
    decide
  | some mo =>
    have h9 := e1 mo h
    show ("module " ++ mo.name ++ " of loader " ++ "'bootstrap'").toList.length ≤ 100
    rw [h9]
    decide
theorem msg_len {vm : Vm} {a b : Class} (hM : MRg vm) (ha : a.loader = none) (hb : b.loader = none) (ha2 : a.hidden = none) (hb2 : b.hidden = none) (ha3 : packageOf a.name ∈ castPackages_1) (hb3 : packageOf b.name ∈ castPackages_1) (ha4 : a.name.toList.length ≤ 100) (hb4 : b.name.toList.length ≤ 100) : (checkcast.message vm a b).toList.length ≤ 1200 ∧ ∃ t : List Char, (checkcast.message vm a b).toList = 'c' :: t := by
  have sh : ∀ k : Class, k.hidden = none → k.name.toList.length ≤ 100 → k.shown.toList.length ≤ 100 := by
    intro k h1 h2
    unfold Class.shown
    rw [h1]
    dsimp only
    unfold dotted turned
    rw [String.toList_ofList, List.length_map]
    exact h2
  have s1 := sh a ha2 ha4
  have s2 := sh b hb2 hb4
  have h1 := home_len hM ha ha3
  have h2 := home_len hM hb hb3
  have hh : (vm.homes a b).toList.length ≤ 500 := by
    unfold Vm.homes
    split
    · show (toString a.shown ++ toString " and " ++ toString b.shown ++ toString " are in " ++ toString (vm.home a)).toList.length ≤ 500
      simp only [String.toList_append, List.length_append]
      have a1 : (toString " and ").toList.length = 5 := by decide
      have a2 : (toString " are in ").toList.length = 8 := by decide
      have a3 : (toString a.shown).toList.length ≤ 100 := s1
      have a4 : (toString b.shown).toList.length ≤ 100 := s2
      have a5 : (toString (vm.home a)).toList.length ≤ 100 := h1
      omega
    · show (toString a.shown ++ toString " is in " ++ toString (vm.home a) ++ toString "; " ++ toString b.shown ++ toString " is in " ++ toString (vm.home b)).toList.length ≤ 500
      simp only [String.toList_append, List.length_append]
      have a1 : (toString " is in ").toList.length = 7 := by decide
      have a2 : (toString "; ").toList.length = 2 := by decide
      have a3 : (toString a.shown).toList.length ≤ 100 := s1
      have a4 : (toString b.shown).toList.length ≤ 100 := s2
      have a5 : (toString (vm.home a)).toList.length ≤ 100 := h1
      have a6 : (toString (vm.home b)).toList.length ≤ 100 := h2
      omega
  have e0 : checkcast.message vm a b = toString "class " ++ toString a.shown ++ toString " cannot be cast to class " ++ toString b.shown ++ toString " (" ++ toString (vm.homes a b) ++ toString ")" := rfl
  rw [e0]
  refine ⟨?_, ?_⟩
  · simp only [String.toList_append, List.length_append]
    have a1 : (toString "class ").toList.length = 6 := by decide
    have a2 : (toString " cannot be cast to class ").toList.length = 25 := by decide
    have a3 : (toString " (").toList.length = 2 := by decide
    have a4 : (toString ")").toList.length = 1 := by decide
    have a5 : (toString a.shown).toList.length ≤ 100 := s1
    have a6 : (toString b.shown).toList.length ≤ 100 := s2
    have a7 : (toString (vm.homes a b)).toList.length ≤ 500 := hh
    omega
  · refine ⟨"lass ".toList ++ a.shown.toList ++ " cannot be cast to class ".toList ++ b.shown.toList ++ " (".toList ++ (vm.homes a b).toList ++ ")".toList, ?_⟩
    simp only [String.toList_append]
    rfl
theorem txt_ok {tx : String} (h1 : tx.toList.length ≤ 1200) (h2 : ∃ t : List Char, tx.toList = 'c' :: t) : (tx == notModelled) = false ∧ (stringBytes (stringToUtf16 tx)).size ≤ 10000 := by
  refine ⟨?_, ?_⟩
  · rw [beq_eq_false_iff_ne]
    intro h
    obtain ⟨t, ht⟩ := h2
    rw [h] at ht
    have h4 : notModelled.toList = '\u0000' :: " a message that is not modelled".toList := by decide
    rw [h4] at ht
    simp at ht
  · have b1 := stringBytes_size_le (stringToUtf16 tx)
    have b2 := utf16_size_le tx
    omega
section
variable {Z : SS0} {D : DD} {p : Program} {l : Launch} {e : Env} {R : Room} {s : State} {m : MethodId} {args : Array Value} {below : List Frame} {meth : Method} {c : Code} {T : State} {locs : List Loc} {cells slots : Nat}
theorem cast_fails (X : Stand p l e R s m args below meth c T locs cells slots) (hexec : p.tables.exec = Jvm.exec) {own name : String} {index : Nat} (hown : s.vm.findClass own = some m.cls) (hlink : (Cond.classLink own index name).before args s = true)
    {a : Addr} {cell : Cell} {cT : ClassId} {ks : Class} (hcell : T.heap[a]? = some cell) (hobj : ∀ k, cell.vm ≠ .statics k) (hks : s.vm.classes[cell.cls]? = some ks) (hcT : s.vm.findClass name = some cT) (hasg : s.vm.assignable cell.cls cT = false)
    {g : JFrame} (hg : g.method = m) {rest : List Value} (hstack : g.stack = .ref a :: rest) (hdg : decode c.code g.pc = .ok (.checkcast index, 3)) :
    ∃ (vm' : Vm) (k1 k2 : Class), s.WarmedH vm' ∧ vm'.classes[cell.cls]? = some k1 ∧ vm'.classes[cT]? = some k2 ∧ Stand p l e R s m args below meth c (T.setVm vm') locs cells slots ∧
      ∀ target, Steps p.tables e below (((T.setVm vm').setTop g).pushFrame (.throwNew "java/lang/ClassCastException" (some (checkcast.message vm' k1 k2)) none)) target → Steps p.tables e below (T.setTop g) target := by
  have hpl : e.platform.magicAccessors = ({} : Platform).magicAccessors := by rw [X.admits.platform]
  obtain ⟨c', hc', hcl⟩ := Cond.classLink_spec hown hlink e.platform hpl
  cases hcT.symm.trans hc'
  obtain ⟨dk, _, _, kt, hd, _, _, _, _, hkt, _, hopen⟩ := hcl.here
  have hcl₀ := X.warmed.classLinks hcl
  have hW' : s.WarmedH (T.vm.noted m.cls index (.cls cT)) := X.warmed.noted hd hopen (State.rightAt_cls hcl)
  obtain ⟨ks', hks', -⟩ := hW'.alike.2.2 _ _ hks
  obtain ⟨kt', hkt', -⟩ := hW'.alike.2.2 _ _ hkt
  refine ⟨_, ks', kt', hW', hks', hkt', X.noted hW', fun target hrest => ?_⟩
  subst hg
  jvm_step X.here [hexec, hdg, checkcast.wp_cold (e := e) (s := T) (f := g) X.here.top hstack (resolveClass_links e.toSetting hcl₀) hcl₀.ready,
    checkcast.wp_ready (e := e) (s := T.setVm (T.vm.noted g.method.cls index (.cls cT))) (f := g) X.here.top hcl₀.ready hstack]
  refine ⟨cell, hcell, hobj, ks', hks', kt', hkt', ?_⟩
  rw [if_neg (by rw [hW'.alike.assignable, hasg]; decide)]
  exact hrest
end
theorem cast_th {Z : SS0} {D : DD} {l : Launch} (hB : Base Z D) (hMR : MRg Z.s.vm) : CastTh Z D l := by
  intro p e R s m args below meth c d y pc k t L st G G1 T locs cells slots ls ad a C hHp hRd hsz htr hw S hR X hd hcl hk hs
  have hdc : decode c.code pc = .ok (.checkcast k, 3) := by rw [C.2.1]; exact hd
  have hW := C.2.2.2.1
  have hown := C.2.2.2.2.1
  unfold sCast at hs
  split at hs
  · next r st2 =>
    have hr : r < hN G := S.2.2.2.1 _ List.mem_cons_self r rfl
    split at hs
    · cases hs
    · split at hs
      · next hno =>
        obtain ⟨rfl, rfl⟩ := sX_thr hs
        have hno' : hT G r ∈ castNo t := by simpa using hno
        have hkn : hT G r ∈ knL2 := by
          have h1 : ∀ q ∈ castNT, ∀ u ∈ q.2, u ∈ knL2 := by decide +kernel
          exact h1 _ (castN_mem hk) _ hno'
        obtain ⟨cell, g1, g2, g3⟩ := S.1.known hB hW hr hkn
        obtain ⟨c0, t1, f1, f2, f3⟩ := va_Nc.moved hW.alike (va_Nc.of (flat_of_before _ hB.2.1 _ (cast_no _ (castN_mem hk) _ hno')))
        cases g3.symm.trans f1
        obtain ⟨k1, hk1⟩ : ∃ k1, s.vm.classes[cell.cls]? = some k1 := by
          unfold Vm.findClass at g3
          obtain ⟨hlt, -, -⟩ := Array.findIdx?_eq_some_iff_getElem.mp g3
          exact ⟨_, Array.getElem?_eq_getElem hlt⟩
        obtain ⟨vm', q1, q2, w1, w2, w3, X', st'⟩ := cast_fails X C.1 hown (hB.word hW (cl_all hcl)) g1 (fun z h => by rw [h] at g2; cases g2) hk1 f2 f3 (g := F0 m pc ls (.ref (ad r) :: st2.map (cvl ad))) rfl rfl hdc
        have fa : vm'.findClass (tnm (hT G r)) = some cell.cls := by rw [w1.alike.findClass]; exact g3
        have fb : vm'.findClass (clN t) = some t1 := by rw [w1.alike.findClass]; exact f2
        obtain ⟨n1, n2, n3⟩ := fc_spec fa w2
        obtain ⟨n4, n5, n6⟩ := fc_spec fb w3
        have hta : ∀ u ∈ knL2, packageOf (tnm u) ∈ castPackages_1 ∧ (tnm u).toList.length ≤ 100 := by decide +kernel
        have htb : ∀ u ∈ castK, packageOf (clN u) ∈ castPackages_1 ∧ (clN u).toList.length ≤ 100 := by decide +kernel
        have hk' : t ∈ castK := by simpa using hk
        obtain ⟨m1, m2⟩ := msg_len ((hMR.alike hW.alike).alike w1.alike) n3 n6 n2 n5 (by rw [n1]; exact (hta _ hkn).1) (by rw [n4]; exact (htb _ hk').1) (by rw [n1]; exact (hta _ hkn).2) (by rw [n4]; exact (htb _ hk').2)
        obtain ⟨x1, x2⟩ := txt_ok m1 m2
        exact Thrown.msg (t := 21) (by decide) hB C hHp hRd hsz htr S hR x1 x2 X' rfl (stk1 := .ref (ad r) :: st2.map (cvl ad)) (by
          have h9 : (((Sum.inr (Sum.inr (some r)) :: st2).map (cvl ad)).map fun v => v.category).sum = wt (Sum.inr (Sum.inr (some r)) :: st2) := wt_of ad _
          have h8 : ((Value.ref (ad r) :: st2.map (cvl ad)).map fun v => v.category).sum = wt (Sum.inr (Sum.inr (some r)) :: st2) := h9
          rw [h8]; exact hw) st'
      · cases hs
  · cases hs
  · cases hs
