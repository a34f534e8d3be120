/-! soundness 6: putfield by sorts; arrays are read and written -/
theorem inb_in {j : Int32} {n : Nat} (h : inb j n = true) : vp_in j n := by
  rw [vp_in_iff]
  unfold inb at h
  simpa using h
theorem inb_lt {j : Int32} {n : Nat} (h : inb j n = true) : ix j < n := Nat.not_le.mp fun q => inb_in h (Or.inr q)
section
variable {Z : SS0} {D : DD} {p : Program} {l : Launch} {e : Env} {R : Room} {s : State} {m : MethodId} {args : Array Value} {below : List Frame} {meth : Method} {c : Code} {Q : State → Prop} {y pc k f : Nat} {L : AL} {st : List AV} {G : AH} {H : Heap} {locs : List Loc} {cells slots : Nat} {ls : Array Slot} {ad : Nat → Nat} {q : Nat × AL × List AV × AH}
/-- behind a store -/
theorem Sim.stored {G' : AH} {H' : Heap} {st' : List AV} {a n : Nat} (S : Sim Z D ad G L st H locs ls) (hc : Conc Z D ad G' H') (eN : hN G' = hN G) (h3 : 3 ≤ a) (ha : a < hN G) (hs : ∀ w ∈ st', w ∈ st) : Sim Z D ad G' L st' H' (locs ++ [⟨ad a, n⟩]) ls := by
  refine ⟨hc, S.2.1, fun i v hv r hr => by rw [eN]; exact S.2.2.1 i v hv r hr, fun w hw r hr => by rw [eN]; exact S.2.2.2.1 w (hs w hw) r hr, fun x hx => ?_⟩
  rcases List.mem_append.mp hx with h | h
  · exact S.2.2.2.2 x h
  · rw [List.mem_singleton.mp h]
    exact (S.1.2.2.1 a h3 ha).1
theorem gPut (hB : Base Z D) (C : Ctx Z p s m meth c y) (hf : FLf (mcls y) k f) (hpf : pfOK y f = true) (hd : decode (mcode y) pc = .ok (.putfield k, 3)) (hs : sPut f pc L st G = some (.inl q)) (S : Sim Z D ad G L st H locs ls) (K : Nx Z D p l e R s m args below meth c Q cells slots ad G q) : W p l e R s m args below meth c H locs cells slots Q (F0 m pc ls (st.map (cvl ad))) := by
  have hI0 : ∀ (x : Int32) (a g : Nat), (fsort f = 0 ∨ fsort f = 3) → fval ad (sI G a f x) a g = if g = f then .int x else fval ad G a g := by
    intro x a g hz
    by_cases e : g = f
    · subst e
      rw [if_pos rfl]
      unfold fval
      rcases hz with hz | hz <;> rw [hz] <;> show Value.int (hI (sI G a g x) a g) = _ <;> rw [hI_sI, if_pos ⟨rfl, rfl⟩]
    · rw [if_neg e]
      unfold fval
      rw [hI_sI, if_neg (fun q => e q.2), hJ_sI, hR_sI]
  unfold sPut at hs
  split at hs
  · next x a st2 =>
    have ha : a < hN G := S.2.2.2.1 _ (List.mem_cons_of_mem _ List.mem_cons_self) a rfl
    split at hs
    · next hok =>
      have h3 := S.1.obj3 (okF_obj hok).1
      split at hs
      · next e0 =>
        cases hs
        exact gPut0 (v := vi x) (G' := sI G a f x) hB C hf hpf hd S.1 ha hok (Or.inl ⟨e0, x, rfl⟩) Scp.i rfl (fun _ => rfl) (fun _ => rfl) (fun b i hb => by rw [hI_sI, if_neg (fun q => hb q.1)]) (fun _ _ _ => rfl) (fun _ _ _ => rfl) (fun i r hr => Or.inl hr) (fun g => hI0 x a g (Or.inl e0)) (fun H' n hc => K H' _ ls ad cells slots (S.stored hc rfl h3 ha (fun w hw => List.mem_cons_of_mem _ (List.mem_cons_of_mem _ hw))) (fun _ _ => rfl) rfl rfl)
      · next e0 =>
        split at hs
        · next hx =>
          cases hs
          exact gPut0 (v := vi x) (G' := sI G a f x) hB C hf hpf hd S.1 ha hok (Or.inr (Or.inr (Or.inl ⟨e0, x, rfl, hx⟩))) Scp.i rfl (fun _ => rfl) (fun _ => rfl) (fun b i hb => by rw [hI_sI, if_neg (fun q => hb q.1)]) (fun _ _ _ => rfl) (fun _ _ _ => rfl) (fun i r hr => Or.inl hr) (fun g => hI0 x a g (Or.inr e0)) (fun H' n hc => K H' _ ls ad cells slots (S.stored hc rfl h3 ha (fun w hw => List.mem_cons_of_mem _ (List.mem_cons_of_mem _ hw))) (fun _ _ => rfl) rfl rfl)
        · cases hs
      · cases hs
    · cases hs
  · next x a st2 =>
    have ha : a < hN G := S.2.2.2.1 _ (List.mem_cons_of_mem _ List.mem_cons_self) a rfl
    split at hs
    · next hok =>
      have h3 := S.1.obj3 (okF_obj hok).1
      split at hs
      · next e0 =>
        cases hs
        refine gPut0 (v := vl x) (G' := sJ G a f x) hB C hf hpf hd S.1 ha hok (Or.inr (Or.inl ⟨e0, x, rfl⟩)) Scp.l rfl (fun _ => rfl) (fun _ => rfl) (fun _ _ _ => rfl) (fun b i hb => by rw [hJ_sJ, if_neg (fun q => hb q.1)]) (fun _ _ _ => rfl) (fun i r hr => Or.inl hr) (fun g => ?_) (fun H' n hc => K H' _ ls ad cells slots (S.stored hc rfl h3 ha (fun w hw => List.mem_cons_of_mem _ (List.mem_cons_of_mem _ hw))) (fun _ _ => rfl) rfl rfl)
        by_cases e : g = f
        · subst e
          rw [if_pos rfl]
          unfold fval
          rw [e0]
          show Value.long (hJ (sJ G a g x) a g) = _
          rw [hJ_sJ, if_pos ⟨rfl, rfl⟩]
          rfl
        · rw [if_neg e]
          unfold fval
          rw [hI_sJ, hJ_sJ, if_neg (fun q => e q.2), hR_sJ]
      · cases hs
    · cases hs
  · next x a st2 =>
    have ha : a < hN G := S.2.2.2.1 _ (List.mem_cons_of_mem _ List.mem_cons_self) a rfl
    have hsc : Scp G (vr x) := S.2.2.2.1 _ List.mem_cons_self
    split at hs
    · next hok =>
      have h3 := S.1.obj3 (okF_obj hok).1
      split at hs
      · next e0 =>
        cases hs
        refine gPut0 (v := vr x) (G' := sR G a f x) hB C hf hpf hd S.1 ha hok (Or.inr (Or.inr (Or.inr ⟨e0, x, rfl⟩))) hsc rfl (fun _ => rfl) (fun _ => rfl) (fun _ _ _ => rfl) (fun _ _ _ => rfl) (fun b i hb => by rw [hR_sR, if_neg (fun q => hb q.1)]) (fun i r hr => ?_) (fun g => ?_) (fun H' n hc => K H' _ ls ad cells slots (S.stored hc rfl h3 ha (fun w hw => List.mem_cons_of_mem _ (List.mem_cons_of_mem _ hw))) (fun _ _ => rfl) rfl rfl)
        · rw [hR_sR] at hr
          by_cases e : a = a ∧ i = f
          · rw [if_pos e] at hr
            exact Or.inr (by rw [hr])
          · rw [if_neg e] at hr
            exact Or.inl hr
        · by_cases e : g = f
          · subst e
            rw [if_pos rfl]
            unfold fval
            rw [e0]
            show cvr ad (hR (sR G a g x) a g) = _
            rw [hR_sR, if_pos ⟨rfl, rfl⟩]
            rfl
          · rw [if_neg e]
            unfold fval
            rw [hI_sR, hJ_sR, hR_sR, if_neg (fun q => e q.2)]
      · cases hs
    · cases hs
  · cases hs
theorem Conc.tag45 (h : Conc Z D ad G H) {a : Nat} (ha : a < hN G) (ht : hT G a = 45) : a = 0 := by
  obtain ⟨c1, -, -, -, -, ⟨o1, -, -, o4, -, o6⟩, -⟩ := h
  rcases Nat.lt_or_ge a 3 with q | q
  · rcases (show a = 0 ∨ a = 1 ∨ a = 2 by omega) with e | e | e
    · exact e
    · rw [e, o4] at ht; exact absurd ht (by decide)
    · rw [e, o6] at ht; exact absurd ht (by decide)
  · have := (c1 a q ha).2.2.2
    rw [ht] at this
    exact absurd this (by decide)
theorem Conc.tag55 (h : Conc Z D ad G H) {a : Nat} (ha : a < hN G) (ht : hT G a = 55) : a = 1 := by
  obtain ⟨c1, -, -, -, -, ⟨o1, -, -, o4, -, o6⟩, -⟩ := h
  rcases Nat.lt_or_ge a 3 with q | q
  · rcases (show a = 0 ∨ a = 1 ∨ a = 2 by omega) with e | e | e
    · rw [e, o1] at ht; exact absurd ht (by decide)
    · exact e
    · rw [e, o6] at ht; exact absurd ht (by decide)
  · have := (c1 a q ha).2.2.2
    rw [ht] at this
    exact absurd this (by decide)
/-- a cell of an array, at a frame -/
theorem Conc.arrAt (h : Conc Z D ad G H) {a : Nat} (ha : a < hN G) (ht : hT G a ∈ arrTg) : H[ad a]? = some (arrV (D.2.2 (hT G a)) (hL G a) (fun i => aval ad G a (hT G a) i)) := ((h.1 a (h.arr3 ht) ha).2.1 ht).1
theorem gIald {j : Int32} {a : Nat} {rest : List Value} (hB : Base Z D) (C : Ctx Z p s m meth c y) (hd : decode (mcode y) pc = .ok (.iaload, 1)) (hc : Conc Z D ad G H) (ha : a < hN G) (ht : hT G a = 40 ∨ hT G a = 45) (hin : inb j (hL G a) = true)
    (K : W p l e R s m args below meth c H locs cells slots Q (F0 m (pc + 1) ls (.int (hI G a (ix j)) :: rest))) : W p l e R s m args below meth c H locs cells slots Q (F0 m pc ls (.int j :: .ref (ad a) :: rest)) := by
  obtain ⟨hx, hb, hml, hW, hown, -, -, -⟩ := C
  have hlt := inb_lt hin
  have hvp := inb_in hin
  rcases ht with ht | ht
  · have hm : hT G a ∈ arrTg := by rw [ht]; decide
    have hcell := hc.arrAt ha hm
    refine W.iald (v := .int (hI G a (ix j))) hx hb hcell (by rw [ht]; exact (hB.arr hW (t := 40) (by decide)).1 _ _) (fun q => by cases q) (by rw [arrV_size]; exact hvp) (by show (arrV _ _ _).slots[ix j]? = _; rw [arrV_read _ _ hlt, ht]; rfl) rfl rfl hd K
  · have e0 := hc.tag45 ha ht
    subst e0
    obtain ⟨-, -, -, -, -, ⟨o1, o2, o3, -⟩, ⟨d0, -⟩, -, c9⟩ := hc
    obtain ⟨-, -, -, -, -, ⟨⟨scr, x1, x2, x3, x4, x5⟩, -⟩, x6, -, -, -⟩ := hB
    have hcell : H[ad 0]? = some scr := by rw [d0, c9 _ x6]; exact x1
    rw [o2] at hlt hvp
    refine W.iald (v := .int (hI G 0 (ix j))) hx hb hcell ?_ x3 (by rw [x4]; exact hvp) (by rw [o3 _ hlt]; exact x5 _ hlt) rfl rfl hd K
    exact State.isArrayOf_alike hW.alike x2
theorem gAI {ts : List Nat} (hs : sAI ts y pc L st G = some (.inl q)) (S : Sim Z D ad G L st H locs ls) (K : Nx Z D p l e R s m args below meth c Q cells slots ad G q)
    (row : ∀ (j : Int32) (a : Nat) (rest : List Value), a < hN G → ts.contains (hT G a) = true → inb j (hL G a) = true → W p l e R s m args below meth c H locs cells slots Q (F0 m (pc + 1) ls (.int (hI G a (ix j)) :: rest)) → W p l e R s m args below meth c H locs cells slots Q (F0 m pc ls (.int j :: .ref (ad a) :: rest))) : W p l e R s m args below meth c H locs cells slots Q (F0 m pc ls (st.map (cvl ad))) := by
  unfold sAI at hs
  split at hs
  · next j a st2 =>
    have ha : a < hN G := S.2.2.2.1 _ (List.mem_cons_of_mem _ List.mem_cons_self) a rfl
    split at hs
    · next ht =>
      split at hs
      · next hin =>
        cases hs
        exact row j a _ ha ht hin (Nx.same K (S.sub fun w hw => by
          rcases List.mem_cons.mp hw with q | q
          · rw [q]; exact Scp.i
          · exact S.2.2.2.1 w (List.mem_cons_of_mem _ (List.mem_cons_of_mem _ q))))
      · unfold sX at hs
        split at hs <;> cases hs
    · cases hs
  · cases hs
theorem ar_rd {j : Int32} {cA : ClassId} {n : Nat} {F : Nat → Value} (hin : inb j n = true) : (arrV cA n F).slots[j.toNatClampNeg]? = some (F (ix j)) := by
  show (arrV cA n F).slots[ix j]? = _
  rw [arrV_read _ _ (inb_lt hin)]
theorem gBald {j : Int32} {a : Nat} {rest : List Value} (hB : Base Z D) (C : Ctx Z p s m meth c y) (hd : decode (mcode y) pc = .ok (.baload, 1)) (hc : Conc Z D ad G H) (ha : a < hN G) (ht : hT G a = 42 ∨ hT G a = 44) (hin : inb j (hL G a) = true)
    (K : W p l e R s m args below meth c H locs cells slots Q (F0 m (pc + 1) ls (.int (hI G a (ix j)) :: rest))) : W p l e R s m args below meth c H locs cells slots Q (F0 m pc ls (.int j :: .ref (ad a) :: rest)) := by
  obtain ⟨hx, hb, hml, hW, hown, -, -, -⟩ := C
  have hm : hT G a ∈ arrTg := by rcases ht with ht | ht <;> rw [ht] <;> decide
  have hcell := hc.arrAt ha hm
  rcases ht with ht | ht
  · exact W.bald (v := .int (hI G a (ix j))) hx hb hcell (by rw [ht]; exact (hB.arr hW (t := 42) (by decide)).1 _ _) (fun q => by cases q) (by rw [arrV_size]; exact inb_in hin) (by rw [ar_rd hin, ht]; rfl) rfl rfl hd K
  · exact W.zald (v := .int (hI G a (ix j))) hx hb hcell (by rw [ht]; exact (hB.arr hW (t := 44) (by decide)).1 _ _) (fun q => by cases q) (by rw [arrV_size]; exact inb_in hin) (by rw [ar_rd hin, ht]; rfl) rfl rfl hd K
theorem gSald {j : Int32} {a : Nat} {rest : List Value} (hB : Base Z D) (C : Ctx Z p s m meth c y) (hd : decode (mcode y) pc = .ok (.saload, 1)) (hc : Conc Z D ad G H) (ha : a < hN G) (ht : hT G a = 43) (hin : inb j (hL G a) = true)
    (K : W p l e R s m args below meth c H locs cells slots Q (F0 m (pc + 1) ls (.int (hI G a (ix j)) :: rest))) : W p l e R s m args below meth c H locs cells slots Q (F0 m pc ls (.int j :: .ref (ad a) :: rest)) := by
  obtain ⟨hx, hb, hml, hW, hown, -, -, -⟩ := C
  have hm : hT G a ∈ arrTg := by rw [ht]; decide
  have hcell := hc.arrAt ha hm
  exact W.sald (v := .int (hI G a (ix j))) hx hb hcell (by rw [ht]; exact (hB.arr hW (t := 43) (by decide)).1 _ _) (fun q => by cases q) (by rw [arrV_size]; exact inb_in hin) (by rw [ar_rd hin, ht]; rfl) rfl rfl hd K
theorem gAJ (hB : Base Z D) (C : Ctx Z p s m meth c y) (hd : decode (mcode y) pc = .ok (.laload, 1)) (hs : sAJ y pc L st G = some (.inl q)) (S : Sim Z D ad G L st H locs ls) (K : Nx Z D p l e R s m args below meth c Q cells slots ad G q) : W p l e R s m args below meth c H locs cells slots Q (F0 m pc ls (st.map (cvl ad))) := by
  obtain ⟨hx, hb, hml, hW, hown, -, -, -⟩ := C
  unfold sAJ at hs
  split at hs
  · next j a st2 =>
    have ha : a < hN G := S.2.2.2.1 _ (List.mem_cons_of_mem _ List.mem_cons_self) a rfl
    split at hs
    · next ht =>
      have hm : hT G a ∈ arrTg := by rw [ht]; decide
      split at hs
      · next hin =>
        cases hs
        have := Nx.same K (S.sub fun w hw => by
          rcases List.mem_cons.mp hw with q | q
          · rw [q]; exact Scp.l
          · exact S.2.2.2.1 w (List.mem_cons_of_mem _ (List.mem_cons_of_mem _ q)))
        exact W.lald (v := .long (hJ G a (ix j))) hx hb (S.1.arrAt ha hm) (by rw [ht]; exact (hB.arr hW (t := 41) (by decide)).1 _ _) (fun q => by cases q) (by rw [arrV_size]; exact inb_in hin) (by rw [ar_rd hin, ht]; rfl) rfl rfl hd this
      · unfold sX at hs
        split at hs <;> cases hs
    · cases hs
  · unfold sX at hs
    split at hs <;> cases hs
  · cases hs
theorem gAR (hB : Base Z D) (C : Ctx Z p s m meth c y) (hd : decode (mcode y) pc = .ok (.aaload, 1)) (hs : sAR pc L st G = some (.inl q)) (S : Sim Z D ad G L st H locs ls) (K : Nx Z D p l e R s m args below meth c Q cells slots ad G q) : W p l e R s m args below meth c H locs cells slots Q (F0 m pc ls (st.map (cvl ad))) := by
  obtain ⟨hx, hb, hml, hW, hown, -, -, -⟩ := C
  unfold sAR at hs
  split at hs
  · next j a st2 =>
    have ha : a < hN G := S.2.2.2.1 _ (List.mem_cons_of_mem _ List.mem_cons_self) a rfl
    split at hs
    · next ht =>
      have ht : hT G a ∈ refA := by simpa using ht
      have hm : hT G a ∈ arrTg := (show ∀ t ∈ refA, t ∈ arrTg by decide) _ ht
      have hv : aval ad G a (hT G a) (ix j) = cvr ad (hR G a (ix j)) := by
        have h1 : ¬ hT G a = 41 := fun q => (show ∀ t ∈ refA, ¬ t = 41 by decide) _ ht q
        have h2 : ¬ hT G a < 50 := (show ∀ t ∈ refA, ¬ t < 50 by decide) _ ht
        unfold aval
        rw [if_neg h1, if_neg h2]
      split at hs
      · next hin =>
        cases hs
        have := Nx.same K (S.sub fun w hw => by
          rcases List.mem_cons.mp hw with q | q
          · rw [q]; exact fun r hr => S.1.2.2.2.1 a (ix j) r (by have := congrArg (fun v : AV => match v with | .inr (.inr o) => o | _ => none) hr; exact this)
          · exact S.2.2.2.1 w (List.mem_cons_of_mem _ (List.mem_cons_of_mem _ q)))
        exact W.aald (v := cvr ad (hR G a (ix j))) (ty := aty (hT G a)) hx hb (S.1.arrAt ha hm) ((hB.arr hW hm).1 _ _) ((show ∀ t ∈ refA, (aty t).isReference = true by decide) _ ht) (fun q => by cases q) (by rw [arrV_size]; exact inb_in hin) (by rw [ar_rd hin, hv]) rfl rfl hd this
      · cases hs
    · cases hs
  · cases hs
/-- an array's element is written -/
theorem Conc.wrote {H' : Heap} {G' : AH} {a : Nat} {j : Int32} {v : Value} (hc : Conc Z D ad G H) (ha : a < hN G) (hm : hT G a ∈ arrTg) (hin : inb j (hL G a) = true)
    (g1 : H'[ad a]? = some ((arrV (D.2.2 (hT G a)) (hL G a) (fun i => aval ad G a (hT G a) i)).setSlot j.toNatClampNeg v)) (g2 : H'.size = H.size) (g3 : ∀ q, q ≠ ad a → H'[q]? = H[q]?)
    (eN : hN G' = hN G) (eT : ∀ b, hT G' b = hT G b) (eL : ∀ b, hL G' b = hL G b) (eI : ∀ b i, b ≠ a → hI G' b i = hI G b i) (eJ : ∀ b i, b ≠ a → hJ G' b i = hJ G b i) (eR : ∀ b i, b ≠ a → hR G' b i = hR G b i) (eS : ∀ i r, hR G' a i = some r → r < hN G)
    (eV : ∀ i, aval ad G' a (hT G a) i = if i = ix j then v else aval ad G a (hT G a) i) : Conc Z D ad G' H' := by
  refine hc.upd (hc.arr3 hm) ha g2 g3 eN eT eL eI eJ eR eS ⟨fun q => ?_, fun _ => ?_, fun q => ?_, Or.inr (Or.inl (by rw [eT]; exact hm))⟩
  · exfalso
    rw [eT] at q
    exact (show ∀ t ∈ arrTg, ¬ t ∈ objT by decide) _ hm q
  · refine ⟨?_, by rw [eL]; exact ((hc.1 a (hc.arr3 hm) ha).2.1 hm).2⟩
    rw [eT, eL, g1, arrV_store]
    congr 2
    funext i
    show updV _ (ix j) v i = _
    rw [eV]
    rfl
  · exfalso
    rw [eT] at q
    exact (show ∀ t ∈ arrTg, ¬ t ∈ excT by decide) _ hm q
theorem gSI {t : Nat} {g : Int32 → Int32} {ok : Int32 → Bool} (ht40 : t ∈ [40, 42, 43, 44]) (hs : sSI t g ok y pc L st G = some (.inl q)) (S : Sim Z D ad G L st H locs ls) (K : Nx Z D p l e R s m args below meth c Q cells slots ad G q)
    (row : ∀ (x j : Int32) (a : Nat) (rest : List Value), a < hN G → hT G a = t → ok x = true → inb j (hL G a) = true →
      (∀ H' : Heap, H'[ad a]? = some ((arrV (D.2.2 (hT G a)) (hL G a) (fun i => aval ad G a (hT G a) i)).setSlot j.toNatClampNeg (.int (g x))) → H'.size = H.size → (∀ q, q ≠ ad a → H'[q]? = H[q]?) → W p l e R s m args below meth c H' (locs ++ [⟨ad a, j.toNatClampNeg⟩]) cells slots Q (F0 m (pc + 1) ls rest)) →
      W p l e R s m args below meth c H locs cells slots Q (F0 m pc ls (.int x :: .int j :: .ref (ad a) :: rest))) : W p l e R s m args below meth c H locs cells slots Q (F0 m pc ls (st.map (cvl ad))) := by
  unfold sSI at hs
  split at hs
  · next x j a st2 =>
    have ha : a < hN G := S.2.2.2.1 _ (List.mem_cons_of_mem _ (List.mem_cons_of_mem _ List.mem_cons_self)) a rfl
    split at hs
    · next ht =>
      have hm : hT G a ∈ arrTg := by rw [ht]; exact (show ∀ t ∈ [40, 42, 43, 44], t ∈ arrTg by decide) _ ht40
      have n41 : ¬ hT G a = 41 := by rw [ht]; exact (show ∀ t ∈ [40, 42, 43, 44], ¬ t = 41 by decide) _ ht40
      have l50 : hT G a < 50 := by rw [ht]; exact (show ∀ t ∈ [40, 42, 43, 44], t < 50 by decide) _ ht40
      split at hs
      · next hin =>
        split at hs
        · next hok =>
          cases hs
          refine row x j a _ ha ht hok hin fun H' g1 g2 g3 => ?_
          refine K H' _ ls ad cells slots (S.stored (S.1.wrote (G' := sI G a (ix j) (g x)) ha hm hin g1 g2 g3 rfl (fun _ => rfl) (fun _ => rfl) (fun b i hb => by rw [hI_sI, if_neg (fun q => hb q.1)]) (fun _ _ _ => rfl) (fun _ _ _ => rfl) (fun i r hr => S.1.2.2.2.1 a i r hr) (fun i => ?_)) rfl (S.1.arr3 hm) ha (fun w hw => List.mem_cons_of_mem _ (List.mem_cons_of_mem _ (List.mem_cons_of_mem _ hw)))) (fun _ _ => rfl) rfl rfl
          unfold aval
          rw [if_neg n41, if_pos l50, if_neg n41, if_pos l50, hI_sI]
          by_cases hi : i = ix j
          · rw [if_pos ⟨rfl, hi⟩, if_pos hi]
          · rw [if_neg (fun q => hi q.2), if_neg hi]
        · cases hs
      · unfold sX at hs
        split at hs <;> cases hs
    · cases hs
  · cases hs
end
