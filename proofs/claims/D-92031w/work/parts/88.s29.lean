/-! soundness 29: System.arraycopy that goes on -/
theorem i32_nn {z : Int32} (h : 0 ≤ z) : z.toInt = (ix z : Int) ∧ ¬ z < 0 := by
  have hz0 : (0 : Int) ≤ z.toInt := by simpa using Int32.le_iff_toInt_le.mp h
  refine ⟨?_, fun q => ?_⟩
  · show z.toInt = ((z.toInt.toNat : Nat) : Int)
    omega
  · have h2 : z.toInt < (0 : Int32).toInt := Int32.lt_iff_toInt_lt.mp q
    have h3 : (0 : Int32).toInt = 0 := rfl
    omega
section
variable {Z : SS0} {D : DD} {p : Program} {l : Launch} {e : Env} {R : Room} {s : State} {m : MethodId} {args : Array Value} {below : List Frame} {meth : Method} {c : Code} {Q : State → Prop} {d y pc k len : Nat} {L : AL} {st : List AV} {G : AH} {H : Heap} {locs : List Loc} {cells slots : Nat} {ls : Array Slot} {ad : Nat → Nat} {q : Nat × AL × List AV × AH}
/-- a copy between arrays of one kind, or of the empty array -/
theorem cpy0 {t src b : Nat} {i j n : Int32} {rest : List Value} {cs : Cell} {Fa : Nat → Value} {la : Nat} (hB : Base Z D) (C : Ctx Z p s m meth c y) (hRd : RmD d R) (hsz : ls.size = c.maxLocals) (hlk : Cond.methodLink (cnm (mcls y)) k acN ∈ lw_all) (hd : decode (mcode y) pc = .ok (.invokestatic k, 3))
    (hc : Conc Z D ad G H) (hb' : b < hN G) (ht : t ∈ arrTg) (htb : hT G b = t) (hcs : H[src]? = some cs) (hcs1 : cs.vm.isStatics = false) (hcs2 : cs.vm ≠ .unknown) (hcs3 : cs.cls = D.2.2 t) (hcs4 : cs.slots.size = la) (hcs5 : ∀ x, x < la → cs.slots[x]? = some (Fa x))
    (h1 : 0 ≤ i) (h2 : 0 ≤ j) (h3 : 0 ≤ n) (h4 : i.toInt + n.toInt ≤ la) (h5 : j.toInt + n.toInt ≤ hL G b) (hw : (rest.map fun v => v.category).sum ≤ 16)
    (hfit : ∀ x, x < ix n → fits (aty t) (Fa (ix i + x)) = true)
    (htk : ∀ x, x < ix n → ∀ r, Fa (ix i + x) = .ref r → t = 50 ∧ ∃ (cell : Cell) (k1 k0 : Class) (comp : ClassId), H[r]? = some cell ∧ cell.vm.isStatics = false ∧ s.vm.classes[cell.cls]? = some k1 ∧ s.vm.findClass "java/lang/Object" = some comp ∧ s.vm.classes[comp]? = some k0 ∧ s.vm.assignable cell.cls comp = true)
    (kk : ∀ (H' : Heap) (L1 : List Loc), H'[ad b]? = some (arrV (D.2.2 t) (hL G b) (va_cpy Fa (fun x => aval ad G b t x) (ix i) (ix j) (ix n))) → (∀ q, q ≠ ad b → H'[q]? = H[q]?) → H'.size = H.size → (∀ q ∈ L1, q.base = ad b) → W p l e R s m args below meth c H' (locs ++ L1) cells slots Q (F0 m (pc + 3) ls rest)) :
    W p l e R s m args below meth c H locs cells slots Q (F0 m pc ls (.int n :: .int j :: .ref (ad b) :: .int i :: .ref src :: rest)) := by
  obtain ⟨hx, hb, hml, hW, hown, -, -, -⟩ := C
  obtain ⟨r1, r2⟩ := hRd
  obtain ⟨i1, i2⟩ := i32_nn h1
  obtain ⟨j1, j2⟩ := i32_nn h2
  obtain ⟨n1, n2⟩ := i32_nn h3
  have hcd : H[ad b]? = some (arrV (D.2.2 t) (hL G b) (fun x => aval ad G b t x)) := by
    have := hc.arrAt hb' (by rw [htb]; exact ht)
    rw [htb] at this
    exact this
  obtain ⟨hA1, hA2⟩ := hB.arr hW ht
  obtain ⟨-, k1, hk1, cm1, hkk1⟩ := hA1 (hL G b) (fun x => aval ad G b t x)
  have hk1 : s.vm.classes[D.2.2 t]? = some k1 := hk1
  intro T hT X
  obtain ⟨vm', X', step⟩ := X.arraycopy hx hown (index := k) (hB.word hW hlk) (hB.word hW q864) (hB.word hW q863) (hB.word hW q152) (src := src) (dst := ad b) (cs := cs) (cd := arrV (D.2.2 t) (hL G b) (fun x => aval ad G b t x)) (srcPos := i) (destPos := j) (n := n) (by rw [hT]; exact hcs) (by rw [hT]; exact hcd)
    (fun z h => by rw [h] at hcs1; cases hcs1) (fun _ h => by cases h) hcs2 (fun h => by cases h) (by rw [hcs3]; exact hk1) hk1 hkk1 hkk1 (by cases aty t <;> simp [refKind]) i2 j2 n2
    (by rw [i1, n1]; rw [hcs4]; omega)
    (by rw [j1, n1]; rw [arrV_size]; omega)
    (fun vm₁ hal x hx => by
      have e1 : cs.slots.getD (i.toNatClampNeg + x) .null = Fa (ix i + x) := by
        show cs.slots.getD (ix i + x) .null = _
        have hx' : x < ix n := hx
        rw [Array.getD_eq_getD_getElem?, hcs5 _ (by omega)]
        rfl
      rw [e1]
      refine ⟨hfit x hx, ?_⟩
      have h9 := htk x hx
      revert h9
      cases Fa (ix i + x) with
      | ref r =>
        intro h9
        obtain ⟨e50, cell, k2, k0, comp, g1, g2, g3, g4, g5, g6⟩ := h9 r rfl
        subst e50
        obtain ⟨kA, comp2, f1, f2, f3, -⟩ := hA2
        cases hk1.symm.trans f1
        cases hkk1.symm.trans f2
        cases g4.symm.trans f3
        obtain ⟨k2', z1, -⟩ := hal.2.2 _ _ g3
        obtain ⟨k0', z2, -⟩ := hal.2.2 _ _ g5
        exact ⟨cell, by show T.heap[r]? = _; rw [hT]; exact g1, (fun w h => by rw [h] at g2; cases g2), ⟨k2', z1⟩, ⟨k0', z2⟩, by show vm₁.assignable _ _ = true; rw [hal.assignable]; exact g6⟩
      | _ => intro _; trivial)
    (g := F0 m pc ls (.int n :: .int j :: .ref (ad b) :: .int i :: .ref src :: rest)) rfl hsz (rest := rest) rfl (by rw [hb]; exact hd) (by omega) (by rw [F0_mr]; have hq : nativeFrameWords "java/lang/System" "arraycopy" 5 ≤ 100 := (by decide); omega)
  have e2 : copied cs (arrV (D.2.2 t) (hL G b) (fun x => aval ad G b t x)) i j n = arrV (D.2.2 t) (hL G b) (va_cpy Fa (fun x => aval ad G b t x) (ix i) (ix j) (ix n)) :=
    va_copiedX (fun v => v) cs (D.2.2 t) (n0 := la) Fa (fun x => aval ad G b t x) hcs5 (by show ix i + ix n ≤ la; omega)
  rw [e2] at X' step
  have hl : ad b < H.size := (Array.getElem?_eq_some_iff.mp hcd).1
  obtain ⟨t2, a1, b1⟩ := kk (H.setIfInBounds (ad b) (arrV (D.2.2 t) (hL G b) (va_cpy Fa (fun x => aval ad G b t x) (ix i) (ix j) (ix n)))) _ (by simp [Array.getElem?_setIfInBounds, hl]) (fun q hq => by simp [Array.getElem?_setIfInBounds, Ne.symm hq]) (by simp) (fun q hq => by
      obtain ⟨z, -, hz⟩ := List.mem_map.mp hq
      rw [← hz]) ((T.setVm vm').setCell (ad b) (arrV (D.2.2 t) (hL G b) (va_cpy Fa (fun x => aval ad G b t x) (ix i) (ix j) (ix n)))) (by rw [← hT]; rfl) X'
  exact ⟨t2, step t2 a1, b1⟩
/-- what is copied is there, as the heap says -/
theorem Conc.copied {H' : Heap} {G' : AH} {t a b i j n : Nat} (hc : Conc Z D ad G H) (ha : a < hN G) (hb : b < hN G) (ht : t ∈ arrTg) (htb : hT G b = t) (g1 : H'[ad b]? = some (arrV (D.2.2 t) (hL G b) (va_cpy (fun x => aval ad G a t x) (fun x => aval ad G b t x) i j n))) (g2 : ∀ q, q ≠ ad b → H'[q]? = H[q]?) (g3 : H'.size = H.size)
    (eN : hN G' = hN G) (eT : ∀ b, hT G' b = hT G b) (eL : ∀ b, hL G' b = hL G b) (eI : ∀ x z, x ≠ b → hI G' x z = hI G x z) (eJ : ∀ x z, x ≠ b → hJ G' x z = hJ G x z) (eR : ∀ x z, x ≠ b → hR G' x z = hR G x z) (eS : ∀ z r, hR G' b z = some r → r < hN G)
    (eV : ∀ x, aval ad G' b t x = va_cpy (fun x => aval ad G a t x) (fun x => aval ad G b t x) i j n x) : Conc Z D ad G' H' := by
  have hm : hT G b ∈ arrTg := by rw [htb]; exact ht
  refine hc.upd (hc.arr3 hm) hb g3 g2 eN eT eL eI eJ eR eS ⟨fun q => ?_, fun _ => ?_, fun q => ?_, Or.inr (Or.inl (by rw [eT]; exact hm))⟩
  · exfalso
    rw [eT] at q
    exact (show ∀ t ∈ arrTg, ¬ t ∈ objT by decide) _ hm q
  · refine ⟨?_, by rw [eL]; exact ((hc.1 b (hc.arr3 hm) hb).2.1 hm).2⟩
    rw [eT, eL, g1, htb]
    congr 2
    funext x
    exact (eV x).symm
  · exfalso
    rw [eT] at q
    exact (show ∀ t ∈ arrTg, ¬ t ∈ excT by decide) _ hm q
theorem Sim.locsOf {G' : AH} {H' : Heap} {st' : List AV} {b : Nat} {L1 : List Loc} (S : Sim Z D ad G L st H locs ls) (hc : Conc Z D ad G' H') (eN : hN G' = hN G) (h3 : 3 ≤ b) (hb : b < hN G) (h1 : ∀ q ∈ L1, q.base = ad b) (hs : ∀ w ∈ st', w ∈ st) : Sim Z D ad G' L st' H' (locs ++ L1) ls := by
  refine ⟨hc, S.2.1, fun i v hv r hr => by rw [eN]; exact S.2.2.1 i v hv r hr, fun w hw r hr => by rw [eN]; exact S.2.2.2.1 w (hs w hw) r hr, fun x hx => ?_⟩
  rcases List.mem_append.mp hx with h | h
  · exact S.2.2.2.2 x h
  · rw [h1 x h]
    exact (S.1.2.2.1 b h3 hb).1
theorem fit_ok {t : Nat} {v : Int32} (h : t = 40 ∨ t = 42 ∨ t = 43 ∨ t = 44) (hf : fitI t v = true) : fits (aty t) (.int v) = true := by
  rcases h with rfl | rfl | rfl | rfl
  · rfl
  · exact hf
  · exact hf
  · exact hf
theorem cast_ob {s : State} (hB : Base Z D) (hW : Z.s.WarmedH s.vm) (hc : Conc Z D ad G H) {r : Nat} (hr : r < hN G) (h : okA G 50 (some r) = true) : ∃ (cell : Cell) (k1 k0 : Class) (comp : ClassId), H[ad r]? = some cell ∧ cell.vm.isStatics = false ∧ s.vm.classes[cell.cls]? = some k1 ∧ s.vm.findClass "java/lang/Object" = some comp ∧ s.vm.classes[comp]? = some k0 ∧ s.vm.assignable cell.cls comp = true := by
  have ht : hT G r ∈ [3, 4, 5, 7, 8, 9, 10, 11] := by
    rcases okA_some h with ⟨-, q⟩ | ⟨q, -⟩ | ⟨q, -⟩
    · exact q
    · exact absurd q (by decide)
    · exact absurd q (by decide)
  have ho : hT G r ∈ objT := (show ∀ t ∈ [3, 4, 5, 7, 8, 9, 10, 11], t ∈ objT by decide) _ ht
  obtain ⟨cell, k, g1, g2, g3, g4⟩ := hc.ob hB hW hr ho
  obtain ⟨c0, t1, f1, f2, f3⟩ := Cond.castable_spec (va_Nw.use (A := #[]) rfl (va_Nw.warmC hW (va_Nw.of rfl (hB.1 _ (cast_obj _ ht)))))
  cases g3.symm.trans f1
  obtain ⟨k0, hk0⟩ : ∃ k0, s.vm.classes[t1]? = some k0 := by
    obtain ⟨ps, k9, kp, hps, -, hkp, -⟩ := Cond.superclass_spec (hB.obj hW (t := 3) (by decide)).2.1 (hB.word (args := #[]) hW q754)
    cases f2.symm.trans hps
    exact ⟨_, hkp⟩
  exact ⟨cell, k, k0, t1, g1, g2, g4, f2, hk0, f3⟩
theorem gCpy {A st' : List AV} (hB : Base Z D) (C : Ctx Z p s m meth c y) (hRd : RmD d R) (hsz : ls.size = c.maxLocals) (hlk : Cond.methodLink (cnm (mcls y)) k acN ∈ lw_all) (hd : decode (mcode y) pc = .ok (.invokestatic k, 3)) (hst : st.map (cvl ad) = (A.map (cvl ad)).reverse ++ st'.map (cvl ad)) (hmA : ∀ v ∈ A, v ∈ st) (hmS : ∀ v ∈ st', v ∈ st) (hw : wt st' ≤ 16) (hs : sCopy y pc L A st' G = some (.inl q)) (S : Sim Z D ad G L st H locs ls) (K : Nx Z D p l e R s m args below meth c Q cells slots ad G q) : W p l e R s m args below meth c H locs cells slots Q (F0 m pc ls (st.map (cvl ad))) := by
  have hW := C.2.2.2.1
  have hwt : ((st'.map (cvl ad)).map fun v => v.category).sum ≤ 16 := by rw [wt_of]; exact hw
  unfold sCopy at hs
  split at hs
  · next a i b j n =>
    have ha : a < hN G := S.2.2.2.1 _ (hmA _ List.mem_cons_self) a rfl
    have hb : b < hN G := S.2.2.2.1 _ (hmA _ (List.mem_cons_of_mem _ (List.mem_cons_of_mem _ List.mem_cons_self))) b rfl
    have hstk : st.map (cvl ad) = .int n :: .int j :: .ref (ad b) :: .int i :: .ref (ad a) :: st'.map (cvl ad) := hst
    rw [hstk]
    split at hs
    · next htags =>
      split at hs
      · next h55 =>
        obtain ⟨e1, e2, rfl, rfl, rfl⟩ := h55
        cases hs
        have e3 := S.1.tag55 ha e1
        subst e3
        obtain ⟨-, -, -, -, -, -, -, x7, -, ⟨cellE, y1, y2, y3, y4, y5, y6⟩, -⟩ := id hB
        have hcE : H[ad 1]? = some cellE := by
          rw [S.1.2.2.2.2.2.2.1.2.1, S.1.2.2.2.2.2.2.2.2 _ x7]
          exact y1
        refine cpy0 (t := 50) (la := cellE.slots.size) (Fa := fun x => (cellE.slots[x]?).getD .null) hB C hRd hsz hlk hd S.1 hb (by decide) e2 hcE y3 y4 y2 rfl (fun x hx => by rw [Array.getElem?_eq_getElem hx]; rfl) (by decide) (by decide) (by decide) (by show (0 : Int) + 0 ≤ _; omega) (by show (0 : Int) + 0 ≤ _; omega) hwt (fun x hx => absurd hx (by show ¬ x < 0; omega)) (fun x hx => absurd hx (by show ¬ x < 0; omega)) fun H' L1 g1 g2 g3 g4 => ?_
        have e4 : va_cpy (fun x => (cellE.slots[x]?).getD .null) (fun x => aval ad G b 50 x) (ix 0) (ix 0) (ix 0) = va_cpy (fun x => aval ad G b 50 x) (fun x => aval ad G b 50 x) 0 0 0 := by
          funext x
          show (if 0 ≤ x ∧ x < 0 + 0 then _ else _) = (if 0 ≤ x ∧ x < 0 + 0 then _ else _)
          rw [if_neg (by omega), if_neg (by omega)]
        rw [e4] at g1
        have hc' : Conc Z D ad G H' := S.1.copied (a := b) hb hb (by decide) e2 g1 g2 g3 rfl (fun _ => rfl) (fun _ => rfl) (fun _ _ _ => rfl) (fun _ _ _ => rfl) (fun _ _ _ => rfl) (fun z r hr => S.1.2.2.2.1 b z r hr) (fun x => by
          show _ = (if 0 ≤ x ∧ x < 0 + 0 then _ else _)
          rw [if_neg (by omega)])
        exact K H' (locs ++ L1) ls ad cells slots (S.locsOf hc' rfl (S.1.arr3 (by rw [e2]; decide)) hb g4 hmS) (fun _ _ => rfl) rfl rfl
      · split at hs
        · next heq0 =>
          have heq := heq0.1
          split at hs
          · next hbd =>
            obtain ⟨b1, b2, b3, b4, b5⟩ := hbd
            have hcA : ∀ t ∈ arrTg, hT G a = t → H[ad a]? = some (arrV (D.2.2 t) (hL G a) (fun x => aval ad G a t x)) := fun t ht e => by
              have := S.1.arrAt ha (by rw [e]; exact ht)
              rw [e] at this
              exact this
            split at hs
            · next h41 =>
              cases hs
              have h41b : hT G b = 41 := heq.symm.trans h41
              refine cpy0 (t := 41) (la := hL G a) (Fa := fun x => aval ad G a 41 x) hB C hRd hsz hlk hd S.1 hb (by decide) h41b (hcA 41 (by decide) h41) rfl (fun h => by cases h) rfl (arrV_size _ _ _) (fun x hx => arrV_read _ _ hx) b1 b2 b3 b4 b5 hwt (fun x hx => rfl) (fun x hx r hr => by cases hr) fun H' L1 g1 g2 g3 g4 => ?_
              have hc' : Conc Z D ad (cpJ G a (ix i) b (ix j) (ix n)) H' := S.1.copied (a := a) ha hb (by decide) h41b g1 g2 g3 rfl (fun _ => rfl) (fun _ => rfl) (fun _ _ _ => rfl) (fun x z hx => by rw [hJ_cpJ, if_neg (fun q => hx q.1)]) (fun _ _ _ => rfl) (fun z r hr => S.1.2.2.2.1 b z r hr) (fun x => by
                show Value.long (hJ (cpJ G a (ix i) b (ix j) (ix n)) b x) = (if ix j ≤ x ∧ x < ix j + ix n then Value.long (hJ G a (ix i + (x - ix j))) else Value.long (hJ G b x))
                rw [hJ_cpJ]
                by_cases hq : ix j ≤ x ∧ x < ix j + ix n
                · rw [if_pos ⟨rfl, hq⟩, if_pos hq]
                · rw [if_neg (fun w => hq w.2), if_neg hq])
              exact K H' (locs ++ L1) ls ad cells slots (S.locsOf hc' rfl (S.1.arr3 (by rw [h41b]; decide)) hb g4 hmS) (fun _ _ => rfl) rfl rfl
            · split at hs
              · next h50 =>
                split at hs
                · next hall =>
                  cases hs
                  have h50b : hT G b = 50 := heq.symm.trans h50
                  have hal : ∀ x, x < ix n → okA G 50 (hR G a (ix i + x)) = true := fun x hx => List.all_eq_true.mp hall x (List.mem_range.mpr hx)
                  refine cpy0 (t := 50) (la := hL G a) (Fa := fun x => aval ad G a 50 x) hB C hRd hsz hlk hd S.1 hb (by decide) h50b (hcA 50 (by decide) h50) rfl (fun h => by cases h) rfl (arrV_size _ _ _) (fun x hx => arrV_read _ _ hx) b1 b2 b3 b4 b5 hwt (fun x hx => ?_) (fun x hx r hr => ?_) fun H' L1 g1 g2 g3 g4 => ?_
                  · show fits (.object "java/lang/Object") (cvr ad (hR G a (ix i + x))) = true
                    cases hR G a (ix i + x) <;> rfl
                  · have hr : cvr ad (hR G a (ix i + x)) = .ref r := hr
                    have ho := hal x hx
                    cases e9 : hR G a (ix i + x) with
                    | none => rw [e9] at hr; cases hr
                    | some w =>
                      rw [e9] at hr ho
                      cases hr
                      exact ⟨rfl, cast_ob hB hW S.1 (S.1.2.2.2.1 a _ w e9) ho⟩
                  · have hc' : Conc Z D ad (cpR G a (ix i) b (ix j) (ix n)) H' := S.1.copied (a := a) ha hb (by decide) h50b g1 g2 g3 rfl (fun _ => rfl) (fun _ => rfl) (fun _ _ _ => rfl) (fun _ _ _ => rfl) (fun x z hx => by rw [hR_cpR, if_neg (fun q => hx q.1)]) (fun z r hr => by
                      rw [hR_cpR] at hr
                      split at hr
                      · exact S.1.2.2.2.1 a _ r hr
                      · exact S.1.2.2.2.1 b _ r hr) (fun x => by
                      show cvr ad (hR (cpR G a (ix i) b (ix j) (ix n)) b x) = (if ix j ≤ x ∧ x < ix j + ix n then cvr ad (hR G a (ix i + (x - ix j))) else cvr ad (hR G b x))
                      rw [hR_cpR]
                      by_cases hq : ix j ≤ x ∧ x < ix j + ix n
                      · rw [if_pos ⟨rfl, hq⟩, if_pos hq]
                      · rw [if_neg (fun w => hq w.2), if_neg hq])
                    exact K H' (locs ++ L1) ls ad cells slots (S.locsOf hc' rfl (S.1.arr3 (by rw [h50b]; decide)) hb g4 hmS) (fun _ _ => rfl) rfl rfl
                · cases hs
              · split at hs
                · next n41 n50 h45 =>
                  split at hs
                  · next hall =>
                    cases hs
                    have ht4 : hT G a = 40 ∨ hT G a = 42 ∨ hT G a = 43 ∨ hT G a = 44 := by
                      obtain ⟨u1, -⟩ := htags
                      omega
                    have hmem : hT G a ∈ arrTg := by rcases ht4 with h | h | h | h <;> (rw [h]; decide)
                    have hav : ∀ (G0 : AH) (x0 z : Nat), aval ad G0 x0 (hT G a) z = .int (hI G0 x0 z) := fun G0 x0 z => by
                      unfold aval
                      rw [if_neg n41, if_pos (by omega)]
                    have hal : ∀ x, x < ix n → fitI (hT G a) (hI G a (ix i + x)) = true := fun x hx => List.all_eq_true.mp hall x (List.mem_range.mpr hx)
                    refine cpy0 (t := hT G a) (la := hL G a) (Fa := fun x => aval ad G a (hT G a) x) hB C hRd hsz hlk hd S.1 hb hmem heq.symm (hcA _ hmem rfl) rfl (fun h => by cases h) rfl (arrV_size _ _ _) (fun x hx => arrV_read _ _ hx) b1 b2 b3 b4 b5 hwt (fun x hx => ?_) (fun x hx r hr => ?_) fun H' L1 g1 g2 g3 g4 => ?_
                    · rw [hav]; exact fit_ok ht4 (hal x hx)
                    · rw [hav] at hr; cases hr
                    · have hc' : Conc Z D ad (cpI G a (ix i) b (ix j) (ix n)) H' := S.1.copied (a := a) ha hb hmem heq.symm g1 g2 g3 rfl (fun _ => rfl) (fun _ => rfl) (fun x z hx => by rw [hI_cpI, if_neg (fun q => hx q.1)]) (fun _ _ _ => rfl) (fun _ _ _ => rfl) (fun z r hr => S.1.2.2.2.1 b z r hr) (fun x => by
                        show _ = (if ix j ≤ x ∧ x < ix j + ix n then aval ad G a (hT G a) (ix i + (x - ix j)) else aval ad G b (hT G a) x)
                        rw [hav, hav, hav, hI_cpI]
                        by_cases hq : ix j ≤ x ∧ x < ix j + ix n
                        · rw [if_pos ⟨rfl, hq⟩, if_pos hq]
                        · rw [if_neg (fun w => hq w.2), if_neg hq])
                      exact K H' (locs ++ L1) ls ad cells slots (S.locsOf hc' rfl (S.1.arr3 (by rw [← heq]; exact hmem)) hb g4 hmS) (fun _ _ => rfl) rfl rfl
                  · cases hs
                · cases hs
          · exact (sX_nogo hs).elim
        · split at hs
          · exact (sX_nogo hs).elim
          · cases hs
    · cases hs
  · split at hs
    · exact (sX_nogo hs).elim
    · cases hs
  · cases hs
end
