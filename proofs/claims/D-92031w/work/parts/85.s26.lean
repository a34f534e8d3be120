/-! soundness 26: a call is reached, whatever its kind -/
section
variable {Z : SS0} {D : DD} {p : Program} {l : Launch} {e : Env} {R : Room} {s : State} {m : MethodId} {args : Array Value} {below : List Frame} {meth : Method} {c : Code} {T : State} {H : Heap} {locs : List Loc} {cells slots : Nat} {y pc len : Nat} {L : AL} {st : List AV} {G : AH} {ls : Array Slot} {ad : Nat → Nat} {i : Instr}
theorem Conc.ob (hB : Base Z D) (hW : Z.s.WarmedH s.vm) (hc : Conc Z D ad G H) {a : Nat} (ha : a < hN G) (h : hT G a ∈ objT) : ∃ (cell : Cell) (k : Class), H[ad a]? = some cell ∧ cell.vm.isStatics = false ∧ s.vm.findClass (cnm (hT G a)) = some cell.cls ∧ s.vm.classes[cell.cls]? = some k := by
  obtain ⟨cell, g1, g2, g3, -⟩ := (hc.1 a (hc.obj3 h) ha).1 h
  obtain ⟨hf, k, hk, -⟩ := (hB.obj hW h).2
  exact ⟨cell, k, g1, by rw [g3]; rfl, by rw [g2]; exact hf, by rw [g2]; exact hk⟩
theorem Conc.low (hB : Base Z D) (hW : Z.s.WarmedH s.vm) (hc : Conc Z D ad G H) {a : Nat} (ha : a < hN G) (h : hT G a < 40) : ∃ (cell : Cell) (k : Class), H[ad a]? = some cell ∧ cell.vm.isStatics = false ∧ s.vm.classes[cell.cls]? = some k := by
  have h3 : 3 ≤ a := by
    obtain ⟨z0, -, -, z1, -, z2⟩ := hc.2.2.2.2.2.1
    rcases Nat.lt_or_ge a 3 with q | q
    · exfalso
      match a, q with
      | 0, _ => rw [z0] at h; omega
      | 1, _ => rw [z1] at h; omega
      | 2, _ => rw [z2] at h; omega
    · exact q
  rcases (hc.1 a h3 ha).2.2.2 with q | q | q
  · obtain ⟨cell, k, g1, g2, g3, g4⟩ := hc.ob hB hW ha q
    exact ⟨cell, k, g1, g2, g4⟩
  · exact absurd h (by have := (show ∀ t ∈ arrTg, 40 ≤ t by decide) _ q; omega)
  · obtain ⟨cell, g1, g2, g3, -⟩ := (hc.1 a h3 ha).2.2.1 q
    obtain ⟨hf, k, hk, -⟩ := classAt_moved hW.alike (hB.2.2.2.2.1 _ q).1
    exact ⟨cell, k, g1, by rw [g2]; rfl, by rw [g3]; exact hk⟩
/-- the call is reached -/
theorem inv_ok (hB : Base Z D) (C : Ctx Z p s m meth c y) (X : Stand p l e R s m args below meth c T locs cells slots) (hH : T.heap = H) (S : Sim Z D ad G L st H locs ls) (hl : lenOK i len pc = true) (hd : decode (mcode y) pc = .ok (i, len)) {z : Nat} {A : List AV} {pc' : Nat} {st' : List AV} (hs : stp y (mcls y) (mret y) pc len L st G i = some (.inr (.inr (.inr (z, A, pc', st'))))) :
    0 < z ∧ z < 357 ∧ pc' = pc + len ∧ (wt st' ≤ 16 ∧ (lay A).length ≤ mxl z) ∧ (∀ v ∈ A, v ∈ st) ∧ (∀ v ∈ st', v ∈ st) ∧ Inv p l e R s m args below meth c T locs cells slots (F0 m pc ls (st.map (cvl ad))) (st'.map (cvl ad)) z (A.map (cvl ad)).toArray := by
  obtain ⟨k, n, t, ts, hk, ht, hn, hA, hst', hw, hz, hxl, hkind⟩ := call_sh hs
  have hW := C.2.2.2.1
  have h1 : ∀ n, (len == n) = true → len = n := fun n h => by simpa using h
  have hmA : ∀ v ∈ A, v ∈ st := fun v hv => by
    rw [hA] at hv
    exact List.mem_of_mem_take (List.mem_reverse.mp hv)
  have hmS : ∀ v ∈ st', v ∈ st := fun v hv => by
    rw [hst'] at hv
    exact List.mem_of_mem_drop hv
  have hlenA : A.length = n := by rw [hA, List.length_reverse, List.length_take]; omega
  have hst : st.map (cvl ad) = (A.map (cvl ad)).reverse ++ st'.map (cvl ad) := by
    rw [hA, hst', List.map_reverse, List.reverse_reverse, ← List.map_append, List.take_append_drop]
  have hgo := ca_all hk (t, z) ht
  have hdc : decode c.code pc = .ok (i, len) := by rw [C.2.1]; exact hd
  have hMOK : MOK (mcls y) k n (t, z) := by
    rcases hgo with h | h
    · exfalso
      rcases h with ⟨h, -⟩ | ⟨h, -⟩ | ⟨h, -⟩ | ⟨h, -⟩ <;> (cases h; omega)
    · exact h
  obtain ⟨z0, z1, hM⟩ := hMOK
  dsimp only at z0 z1 hM
  have hlt : ∀ a, vr (some a) ∈ A → a < hN G := fun a ha => S.2.2.2.1 _ (hmA _ ha) a rfl
  have tgs : ∀ a, a < hN G → hT G a < 100 := fun a ha => by
    obtain ⟨t0, -, -, t1, -, t2⟩ := S.1.2.2.2.2.2.1
    rcases Nat.lt_or_ge a 3 with q | q
    · match a, q with
      | 0, _ => rw [t0]; decide
      | 1, _ => rw [t1]; decide
      | 2, _ => rw [t2]; decide
    · rcases (S.1.1 a q ha).2.2.2 with h | h | h
      · exact (show ∀ t ∈ objT, t < 100 by decide) _ h
      · exact (show ∀ t ∈ arrTg, t < 100 by decide) _ h
      · exact (show ∀ t ∈ excT, t < 100 by decide) _ h
  rcases hkind with ⟨rfl, e1, e2⟩ | ⟨a, A', eA, hkind⟩
  · obtain rfl := h1 3 hl
    refine ⟨z0, z1, e1, ⟨hw, hxl⟩, hmA, hmS, ?_⟩
    have hCS : CS (mcls y) k n z := by
      rcases hM with ⟨-, h⟩ | ⟨h, -⟩ | ⟨h, -⟩ | ⟨h, -⟩ | ⟨h, -, h2, -⟩
      · exact h
      · omega
      · omega
      · omega
      · subst e2; exact absurd h2 (by decide)
    exact inv_S hB C X hCS z0 z1 rfl (by rw [List.length_map, hlenA]) hst hdc
  · have ha : a < hN G := hlt a (by rw [eA]; exact List.mem_cons_self)
    have hstk : st.map (cvl ad) = (A'.map (cvl ad)).reverse ++ Value.ref (ad a) :: st'.map (cvl ad) := by
      rw [hst, eA, List.map_cons, List.reverse_cons, List.append_assoc]
      rfl
    have hlen' : (A'.map (cvl ad)).length = n - 1 := by
      have : A.length = A'.length + 1 := by rw [eA]; rfl
      rw [List.length_map]; omega
    have eargs : (A.map (cvl ad)).toArray = (Value.ref (ad a) :: A'.map (cvl ad)).toArray := by rw [eA]; rfl
    have hta := tgs a ha
    rw [eargs]
    rcases hkind with ⟨rfl, e1, e2⟩ | ⟨rfl, e1, e2⟩ | ⟨cnt, rfl, e1, e2⟩
    · obtain rfl := h1 3 hl
      refine ⟨z0, z1, e1, ⟨hw, hxl⟩, hmA, hmS, ?_⟩
      rcases e2 with e2 | ⟨e2, hlow⟩
      · have hCN : CN (mcls y) k (n - 1) z := by
          rcases hM with ⟨h, -⟩ | ⟨-, -, h⟩ | ⟨h, -⟩ | ⟨h, -⟩ | ⟨h, -, h2, -⟩
          · omega
          · exact h
          · omega
          · omega
          · subst e2; exact absurd h2 (by decide)
        exact inv_N hB C X hCN rfl hlen' hstk hdc
      · have hCU : CU (mcls y) k (n - 1) z := by
          rcases hM with ⟨h, -⟩ | ⟨h, -⟩ | ⟨-, -, h⟩ | ⟨h, -⟩ | ⟨h, -, h2, -⟩
          · omega
          · omega
          · exact h
          · omega
          · subst e2; exact absurd h2 (by decide)
        obtain ⟨cell, kB, g1, g2, g3⟩ := S.1.low hB hW ha hlow
        exact inv_U hB C X hCU z0 z1 rfl (by rw [hH]; exact g1) g2 g3 hlen' hstk hdc
    · obtain rfl := h1 3 hl
      refine ⟨z0, z1, e1, ⟨hw, hxl⟩, hmA, hmS, ?_⟩
      have hob : hT G a ∈ objT ∧ (CA (mcls y) k (n - 1) (hT G a) z ∨ CO (mcls y) k (n - 1) (hT G a) z) := by
        rcases hM with ⟨h, -⟩ | ⟨h, -⟩ | ⟨h, -⟩ | ⟨-, -, h, h2⟩ | ⟨h, -⟩
        · omega
        · omega
        · omega
        · rw [e2] at h h2; exact ⟨h, h2⟩
        · omega
      obtain ⟨cell, kB, g1, g2, g3, g4⟩ := S.1.ob hB hW ha hob.1
      rcases hob.2 with h | h
      · exact inv_A hB C X h z0 z1 rfl (by rw [hH]; exact g1) g2 g3 hlen' hstk hdc
      · exact inv_O hB C X h rfl (by rw [hH]; exact g1) g2 g3 hlen' hstk hdc
    · obtain rfl := h1 5 hl
      refine ⟨z0, z1, e1, ⟨hw, hxl⟩, hmA, hmS, ?_⟩
      have hob : hT G a ∈ objT ∧ CIf (mcls y) k (n - 1) (hT G a) z := by
        rcases hM with ⟨h, -⟩ | ⟨h, -⟩ | ⟨h, -⟩ | ⟨h, -⟩ | ⟨-, -, h, h2⟩
        · omega
        · omega
        · omega
        · omega
        · have e3 : t - 100 = hT G a := by omega
          rw [e3] at h h2
          exact ⟨h, h2⟩
      obtain ⟨cell, kB, g1, g2, g3, g4⟩ := S.1.ob hB hW ha hob.1
      exact inv_I hB C X hob.2 rfl (by rw [hH]; exact g1) g2 g3 g4 hlen' hstk hdc
end
